/-! LogCompactor -/
set_option maxRecDepth 100000
def RX1 : String := "LogCompactor"
def TX1 : u_T := fun k => match k with
  | 0 => ("LogCompactor", "log", "LLogCompactor$Log;", false)
  | 1 => ("LogCompactor", "saved", "LLogCompactor$Log;", false)
  | 2 => ("LogCompactor", "history", "Ljava/util/ArrayList;", true)
  | 3 => ("LogCompactor", "report", "LLogCompactor$RefusedException;", false)
  | 4 => ("LogCompactor", "input", "[C", true)
  | 5 => ("LogCompactor", "inputLength", "I", false)
  | _ => ("LogCompactor", "conditions", "Ljava/util/ArrayList;", false)
def tyX1 : Nat → FieldType := fun k => match k with
  | 0 => .object "LogCompactor$Log"
  | 1 => .object "LogCompactor$Log"
  | 2 => .object "java/util/ArrayList"
  | 3 => .object "LogCompactor$RefusedException"
  | 4 => .array .char
  | 5 => .int
  | _ => .object "java/util/ArrayList"
abbrev wsX10 : List Cond := u_ws RX1 TX1 7
theorem nmX1 : ∀ a, a < 7 → ∀ b, b < 7 → a ≠ b → (TX1 a).2.1 ≠ (TX1 b).2.1 := by decide +kernel
theorem tyX1_ok : ∀ k, k < 7 → parseFieldDescriptor (TX1 k).2.2.1 = some (tyX1 k) := by decide +kernel
abbrev cX1_init : ByteArray := prog_1_method_6_code
def yX1_init : MethodName := ⟨RX1, "<init>", "()V"⟩
def dkwX1_init_1 : List UInt8 := [181, 0, 46, 42, 16, 60, 188, 5, 181, 0, 50, 177]
abbrev dktX1_init_1 : List UInt8 := dkwX1_init_1 ++ []
def dkwX1_init_0 : List UInt8 := [42, 183, 0, 33, 42, 187, 0, 36, 89, 183, 0, 38, 181, 0, 39, 42, 187, 0, 43, 89, 183, 0, 45]
abbrev dktX1_init_0 : List UInt8 := dkwX1_init_0 ++ dktX1_init_1
theorem dksX1_init_0 : cX1_init.data.toList.drop 0 = dktX1_init_0 := by decide +kernel
theorem dksX1_init_1 : cX1_init.data.toList.drop 23 = dktX1_init_1 := dk_seg dksX1_init_0 23 rfl rfl
theorem dX1_init_0 : decode cX1_init 0 = .ok (.aload_n 0, 1) := dk_42 (dk_at dksX1_init_0 0 rfl rfl)
theorem dX1_init_1 : decode cX1_init 1 = .ok (.invokespecial 33, 3) := dk_183 0 33 (dk_at dksX1_init_0 1 rfl rfl)
theorem dX1_init_4 : decode cX1_init 4 = .ok (.aload_n 0, 1) := dk_42 (dk_at dksX1_init_0 4 rfl rfl)
theorem dX1_init_5 : decode cX1_init 5 = .ok (.new 36, 3) := dk_187 0 36 (dk_at dksX1_init_0 5 rfl rfl)
theorem dX1_init_8 : decode cX1_init 8 = .ok (.dup, 1) := dk_89 (dk_at dksX1_init_0 8 rfl rfl)
theorem dX1_init_9 : decode cX1_init 9 = .ok (.invokespecial 38, 3) := dk_183 0 38 (dk_at dksX1_init_0 9 rfl rfl)
theorem dX1_init_12 : decode cX1_init 12 = .ok (.putfield 39, 3) := dk_181 0 39 (dk_at dksX1_init_0 12 rfl rfl)
theorem dX1_init_15 : decode cX1_init 15 = .ok (.aload_n 0, 1) := dk_42 (dk_at dksX1_init_0 15 rfl rfl)
theorem dX1_init_16 : decode cX1_init 16 = .ok (.new 43, 3) := dk_187 0 43 (dk_at dksX1_init_0 16 rfl rfl)
theorem dX1_init_19 : decode cX1_init 19 = .ok (.dup, 1) := dk_89 (dk_at dksX1_init_0 19 rfl rfl)
theorem dX1_init_20 : decode cX1_init 20 = .ok (.invokespecial 45, 3) := dk_183 0 45 (dk_at dksX1_init_0 20 rfl rfl)
theorem dX1_init_23 : decode cX1_init 23 = .ok (.putfield 46, 3) := dk_181 0 46 (dk_at dksX1_init_1 0 rfl rfl)
theorem dX1_init_26 : decode cX1_init 26 = .ok (.aload_n 0, 1) := dk_42 (dk_at dksX1_init_1 3 rfl rfl)
theorem dX1_init_27 : decode cX1_init 27 = .ok (.bipush 60, 2) := dk_16 60 (dk_at dksX1_init_1 4 rfl rfl)
theorem dX1_init_29 : decode cX1_init 29 = .ok (.newarray .char, 2) := dk_188_5 (dk_at dksX1_init_1 6 rfl rfl)
theorem dX1_init_31 : decode cX1_init 31 = .ok (.putfield 50, 3) := dk_181 0 50 (dk_at dksX1_init_1 8 rfl rfl)
theorem dX1_init_34 : decode cX1_init 34 = .ok (.return_, 1) := dk_177 (dk_at dksX1_init_1 11 rfl rfl)
abbrev cX1_templates : ByteArray := prog_1_method_21_code
def yX1_templates : MethodName := ⟨RX1, "templates", "()I"⟩
def dkwX1_templates_1 : List UInt8 := [167, 0, 6, 4, 28, 120, 128, 60, 132, 2, 1, 167, 255, 225, 27, 172]
abbrev dktX1_templates_1 : List UInt8 := dkwX1_templates_1 ++ []
def dkwX1_templates_0 : List UInt8 := [3, 60, 3, 61, 28, 16, 12, 162, 0, 31, 27, 42, 180, 0, 39, 180, 0, 65, 28, 50, 199, 0, 7, 3]
abbrev dktX1_templates_0 : List UInt8 := dkwX1_templates_0 ++ dktX1_templates_1
theorem dksX1_templates_0 : cX1_templates.data.toList.drop 0 = dktX1_templates_0 := by decide +kernel
theorem dksX1_templates_1 : cX1_templates.data.toList.drop 24 = dktX1_templates_1 := dk_seg dksX1_templates_0 24 rfl rfl
theorem dX1_templates_0 : decode cX1_templates 0 = .ok (.iconst 0, 1) := dk_3 (dk_at dksX1_templates_0 0 rfl rfl)
theorem dX1_templates_1 : decode cX1_templates 1 = .ok (.istore_n 1, 1) := dk_60 (dk_at dksX1_templates_0 1 rfl rfl)
theorem dX1_templates_2 : decode cX1_templates 2 = .ok (.iconst 0, 1) := dk_3 (dk_at dksX1_templates_0 2 rfl rfl)
theorem dX1_templates_3 : decode cX1_templates 3 = .ok (.istore_n 2, 1) := dk_61 (dk_at dksX1_templates_0 3 rfl rfl)
theorem dX1_templates_4 : decode cX1_templates 4 = .ok (.iload_n 2, 1) := dk_28 (dk_at dksX1_templates_0 4 rfl rfl)
theorem dX1_templates_5 : decode cX1_templates 5 = .ok (.bipush 12, 2) := dk_16 12 (dk_at dksX1_templates_0 5 rfl rfl)
theorem dX1_templates_7 : decode cX1_templates 7 = .ok (.if_icmp .ge 31, 3) := dk_162 0 31 (dk_at dksX1_templates_0 7 rfl rfl)
theorem dX1_templates_10 : decode cX1_templates 10 = .ok (.iload_n 1, 1) := dk_27 (dk_at dksX1_templates_0 10 rfl rfl)
theorem dX1_templates_11 : decode cX1_templates 11 = .ok (.aload_n 0, 1) := dk_42 (dk_at dksX1_templates_0 11 rfl rfl)
theorem dX1_templates_12 : decode cX1_templates 12 = .ok (.getfield 39, 3) := dk_180 0 39 (dk_at dksX1_templates_0 12 rfl rfl)
theorem dX1_templates_15 : decode cX1_templates 15 = .ok (.getfield 65, 3) := dk_180 0 65 (dk_at dksX1_templates_0 15 rfl rfl)
theorem dX1_templates_18 : decode cX1_templates 18 = .ok (.iload_n 2, 1) := dk_28 (dk_at dksX1_templates_0 18 rfl rfl)
theorem dX1_templates_19 : decode cX1_templates 19 = .ok (.aaload, 1) := dk_50 (dk_at dksX1_templates_0 19 rfl rfl)
theorem dX1_templates_20 : decode cX1_templates 20 = .ok (.ifnonnull 7, 3) := dk_199 0 7 (dk_at dksX1_templates_0 20 rfl rfl)
theorem dX1_templates_23 : decode cX1_templates 23 = .ok (.iconst 0, 1) := dk_3 (dk_at dksX1_templates_0 23 rfl rfl)
theorem dX1_templates_24 : decode cX1_templates 24 = .ok (.goto 6, 3) := dk_167 0 6 (dk_at dksX1_templates_1 0 rfl rfl)
theorem dX1_templates_27 : decode cX1_templates 27 = .ok (.iconst 1, 1) := dk_4 (dk_at dksX1_templates_1 3 rfl rfl)
theorem dX1_templates_28 : decode cX1_templates 28 = .ok (.iload_n 2, 1) := dk_28 (dk_at dksX1_templates_1 4 rfl rfl)
theorem dX1_templates_29 : decode cX1_templates 29 = .ok (.ishl, 1) := dk_120 (dk_at dksX1_templates_1 5 rfl rfl)
theorem dX1_templates_30 : decode cX1_templates 30 = .ok (.ior, 1) := dk_128 (dk_at dksX1_templates_1 6 rfl rfl)
theorem dX1_templates_31 : decode cX1_templates 31 = .ok (.istore_n 1, 1) := dk_60 (dk_at dksX1_templates_1 7 rfl rfl)
theorem dX1_templates_32 : decode cX1_templates 32 = .ok (.iinc 2 1, 3) := dk_132 2 1 (dk_at dksX1_templates_1 8 rfl rfl)
theorem dX1_templates_35 : decode cX1_templates 35 = .ok (.goto (-31), 3) := dk_167 255 225 (dk_at dksX1_templates_1 11 rfl rfl)
theorem dX1_templates_38 : decode cX1_templates 38 = .ok (.iload_n 1, 1) := dk_27 (dk_at dksX1_templates_1 14 rfl rfl)
theorem dX1_templates_39 : decode cX1_templates 39 = .ok (.ireturn, 1) := dk_172 (dk_at dksX1_templates_1 15 rfl rfl)
abbrev cX1_compact : ByteArray := prog_1_method_30_code
def yX1_compact : MethodName := ⟨RX1, "compact", "()I"⟩
def dkwX1_compact_1 : List UInt8 := [167, 255, 246, 167, 0, 9, 78, 42, 45, 181, 0, 125, 42, 43, 182, 0, 120, 28, 172]
abbrev dktX1_compact_1 : List UInt8 := dkwX1_compact_1 ++ []
def dkwX1_compact_0 : List UInt8 := [187, 0, 36, 89, 42, 180, 0, 39, 183, 0, 105, 76, 3, 61, 43, 182, 0, 250, 153, 0, 9, 132, 2, 1]
abbrev dktX1_compact_0 : List UInt8 := dkwX1_compact_0 ++ dktX1_compact_1
theorem dksX1_compact_0 : cX1_compact.data.toList.drop 0 = dktX1_compact_0 := by decide +kernel
theorem dksX1_compact_1 : cX1_compact.data.toList.drop 24 = dktX1_compact_1 := dk_seg dksX1_compact_0 24 rfl rfl
theorem dX1_compact_0 : decode cX1_compact 0 = .ok (.new 36, 3) := dk_187 0 36 (dk_at dksX1_compact_0 0 rfl rfl)
theorem dX1_compact_3 : decode cX1_compact 3 = .ok (.dup, 1) := dk_89 (dk_at dksX1_compact_0 3 rfl rfl)
theorem dX1_compact_4 : decode cX1_compact 4 = .ok (.aload_n 0, 1) := dk_42 (dk_at dksX1_compact_0 4 rfl rfl)
theorem dX1_compact_5 : decode cX1_compact 5 = .ok (.getfield 39, 3) := dk_180 0 39 (dk_at dksX1_compact_0 5 rfl rfl)
theorem dX1_compact_8 : decode cX1_compact 8 = .ok (.invokespecial 105, 3) := dk_183 0 105 (dk_at dksX1_compact_0 8 rfl rfl)
theorem dX1_compact_11 : decode cX1_compact 11 = .ok (.astore_n 1, 1) := dk_76 (dk_at dksX1_compact_0 11 rfl rfl)
theorem dX1_compact_12 : decode cX1_compact 12 = .ok (.iconst 0, 1) := dk_3 (dk_at dksX1_compact_0 12 rfl rfl)
theorem dX1_compact_13 : decode cX1_compact 13 = .ok (.istore_n 2, 1) := dk_61 (dk_at dksX1_compact_0 13 rfl rfl)
theorem dX1_compact_14 : decode cX1_compact 14 = .ok (.aload_n 1, 1) := dk_43 (dk_at dksX1_compact_0 14 rfl rfl)
theorem dX1_compact_15 : decode cX1_compact 15 = .ok (.invokevirtual 250, 3) := dk_182 0 250 (dk_at dksX1_compact_0 15 rfl rfl)
theorem dX1_compact_18 : decode cX1_compact 18 = .ok (.ifCond .eq 9, 3) := dk_153 0 9 (dk_at dksX1_compact_0 18 rfl rfl)
theorem dX1_compact_21 : decode cX1_compact 21 = .ok (.iinc 2 1, 3) := dk_132 2 1 (dk_at dksX1_compact_0 21 rfl rfl)
theorem dX1_compact_24 : decode cX1_compact 24 = .ok (.goto (-10), 3) := dk_167 255 246 (dk_at dksX1_compact_1 0 rfl rfl)
theorem dX1_compact_27 : decode cX1_compact 27 = .ok (.goto 9, 3) := dk_167 0 9 (dk_at dksX1_compact_1 3 rfl rfl)
theorem dX1_compact_30 : decode cX1_compact 30 = .ok (.astore_n 3, 1) := dk_78 (dk_at dksX1_compact_1 6 rfl rfl)
theorem dX1_compact_31 : decode cX1_compact 31 = .ok (.aload_n 0, 1) := dk_42 (dk_at dksX1_compact_1 7 rfl rfl)
theorem dX1_compact_32 : decode cX1_compact 32 = .ok (.aload_n 3, 1) := dk_45 (dk_at dksX1_compact_1 8 rfl rfl)
theorem dX1_compact_33 : decode cX1_compact 33 = .ok (.putfield 125, 3) := dk_181 0 125 (dk_at dksX1_compact_1 9 rfl rfl)
theorem dX1_compact_36 : decode cX1_compact 36 = .ok (.aload_n 0, 1) := dk_42 (dk_at dksX1_compact_1 12 rfl rfl)
theorem dX1_compact_37 : decode cX1_compact 37 = .ok (.aload_n 1, 1) := dk_43 (dk_at dksX1_compact_1 13 rfl rfl)
theorem dX1_compact_38 : decode cX1_compact 38 = .ok (.invokevirtual 120, 3) := dk_182 0 120 (dk_at dksX1_compact_1 14 rfl rfl)
theorem dX1_compact_41 : decode cX1_compact 41 = .ok (.iload_n 2, 1) := dk_28 (dk_at dksX1_compact_1 17 rfl rfl)
theorem dX1_compact_42 : decode cX1_compact 42 = .ok (.ireturn, 1) := dk_172 (dk_at dksX1_compact_1 18 rfl rfl)
abbrev cX1_change : ByteArray := prog_1_method_7_code
def yX1_change : MethodName := ⟨RX1, "change", "(LLogCompactor$Log;)V"⟩
def dkwX1_change_1 : List UInt8 := [42, 180, 0, 46, 42, 180, 0, 39, 182, 0, 61, 61, 42, 43, 181, 0, 39, 177]
abbrev dktX1_change_1 : List UInt8 := dkwX1_change_1 ++ []
def dkwX1_change_0 : List UInt8 := [42, 180, 0, 46, 182, 0, 54, 16, 10, 160, 0, 15, 42, 180, 0, 46, 3, 182, 0, 57, 192, 0, 36, 77]
abbrev dktX1_change_0 : List UInt8 := dkwX1_change_0 ++ dktX1_change_1
theorem dksX1_change_0 : cX1_change.data.toList.drop 0 = dktX1_change_0 := by decide +kernel
theorem dksX1_change_1 : cX1_change.data.toList.drop 24 = dktX1_change_1 := dk_seg dksX1_change_0 24 rfl rfl
theorem dX1_change_0 : decode cX1_change 0 = .ok (.aload_n 0, 1) := dk_42 (dk_at dksX1_change_0 0 rfl rfl)
theorem dX1_change_1 : decode cX1_change 1 = .ok (.getfield 46, 3) := dk_180 0 46 (dk_at dksX1_change_0 1 rfl rfl)
theorem dX1_change_4 : decode cX1_change 4 = .ok (.invokevirtual 54, 3) := dk_182 0 54 (dk_at dksX1_change_0 4 rfl rfl)
theorem dX1_change_7 : decode cX1_change 7 = .ok (.bipush 10, 2) := dk_16 10 (dk_at dksX1_change_0 7 rfl rfl)
theorem dX1_change_9 : decode cX1_change 9 = .ok (.if_icmp .ne 15, 3) := dk_160 0 15 (dk_at dksX1_change_0 9 rfl rfl)
theorem dX1_change_12 : decode cX1_change 12 = .ok (.aload_n 0, 1) := dk_42 (dk_at dksX1_change_0 12 rfl rfl)
theorem dX1_change_13 : decode cX1_change 13 = .ok (.getfield 46, 3) := dk_180 0 46 (dk_at dksX1_change_0 13 rfl rfl)
theorem dX1_change_16 : decode cX1_change 16 = .ok (.iconst 0, 1) := dk_3 (dk_at dksX1_change_0 16 rfl rfl)
theorem dX1_change_17 : decode cX1_change 17 = .ok (.invokevirtual 57, 3) := dk_182 0 57 (dk_at dksX1_change_0 17 rfl rfl)
theorem dX1_change_20 : decode cX1_change 20 = .ok (.checkcast 36, 3) := dk_192 0 36 (dk_at dksX1_change_0 20 rfl rfl)
theorem dX1_change_23 : decode cX1_change 23 = .ok (.astore_n 2, 1) := dk_77 (dk_at dksX1_change_0 23 rfl rfl)
theorem dX1_change_24 : decode cX1_change 24 = .ok (.aload_n 0, 1) := dk_42 (dk_at dksX1_change_1 0 rfl rfl)
theorem dX1_change_25 : decode cX1_change 25 = .ok (.getfield 46, 3) := dk_180 0 46 (dk_at dksX1_change_1 1 rfl rfl)
theorem dX1_change_28 : decode cX1_change 28 = .ok (.aload_n 0, 1) := dk_42 (dk_at dksX1_change_1 4 rfl rfl)
theorem dX1_change_29 : decode cX1_change 29 = .ok (.getfield 39, 3) := dk_180 0 39 (dk_at dksX1_change_1 5 rfl rfl)
theorem dX1_change_32 : decode cX1_change 32 = .ok (.invokevirtual 61, 3) := dk_182 0 61 (dk_at dksX1_change_1 8 rfl rfl)
theorem dX1_change_35 : decode cX1_change 35 = .ok (.istore_n 2, 1) := dk_61 (dk_at dksX1_change_1 11 rfl rfl)
theorem dX1_change_36 : decode cX1_change 36 = .ok (.aload_n 0, 1) := dk_42 (dk_at dksX1_change_1 12 rfl rfl)
theorem dX1_change_37 : decode cX1_change 37 = .ok (.aload_n 1, 1) := dk_43 (dk_at dksX1_change_1 13 rfl rfl)
theorem dX1_change_38 : decode cX1_change 38 = .ok (.putfield 39, 3) := dk_181 0 39 (dk_at dksX1_change_1 14 rfl rfl)
theorem dX1_change_41 : decode cX1_change 41 = .ok (.return_, 1) := dk_177 (dk_at dksX1_change_1 17 rfl rfl)
abbrev cX1_query : ByteArray := prog_1_method_39_code
def yX1_query : MethodName := ⟨RX1, "query", "()I"⟩
def dkwX1_query_2 : List UInt8 := [181, 0, 90, 45, 191]
abbrev dktX1_query_2 : List UInt8 := dkwX1_query_2 ++ []
def dkwX1_query_1 : List UInt8 := [181, 0, 90, 27, 172, 76, 16, 156, 43, 180, 1, 60, 100, 61, 42, 3, 181, 0, 90, 28, 172, 78, 42, 3]
abbrev dktX1_query_1 : List UInt8 := dkwX1_query_1 ++ dktX1_query_2
def dkwX1_query_0 : List UInt8 := [42, 187, 1, 46, 89, 42, 183, 1, 48, 182, 1, 51, 181, 1, 33, 42, 2, 182, 1, 55, 60, 42, 3]
abbrev dktX1_query_0 : List UInt8 := dkwX1_query_0 ++ dktX1_query_1
theorem dksX1_query_0 : cX1_query.data.toList.drop 0 = dktX1_query_0 := by decide +kernel
theorem dksX1_query_1 : cX1_query.data.toList.drop 23 = dktX1_query_1 := dk_seg dksX1_query_0 23 rfl rfl
theorem dksX1_query_2 : cX1_query.data.toList.drop 47 = dktX1_query_2 := dk_seg dksX1_query_1 24 rfl rfl
theorem dX1_query_0 : decode cX1_query 0 = .ok (.aload_n 0, 1) := dk_42 (dk_at dksX1_query_0 0 rfl rfl)
theorem dX1_query_1 : decode cX1_query 1 = .ok (.new 302, 3) := dk_187 1 46 (dk_at dksX1_query_0 1 rfl rfl)
theorem dX1_query_4 : decode cX1_query 4 = .ok (.dup, 1) := dk_89 (dk_at dksX1_query_0 4 rfl rfl)
theorem dX1_query_5 : decode cX1_query 5 = .ok (.aload_n 0, 1) := dk_42 (dk_at dksX1_query_0 5 rfl rfl)
theorem dX1_query_6 : decode cX1_query 6 = .ok (.invokespecial 304, 3) := dk_183 1 48 (dk_at dksX1_query_0 6 rfl rfl)
theorem dX1_query_9 : decode cX1_query 9 = .ok (.invokevirtual 307, 3) := dk_182 1 51 (dk_at dksX1_query_0 9 rfl rfl)
theorem dX1_query_12 : decode cX1_query 12 = .ok (.putfield 289, 3) := dk_181 1 33 (dk_at dksX1_query_0 12 rfl rfl)
theorem dX1_query_15 : decode cX1_query 15 = .ok (.aload_n 0, 1) := dk_42 (dk_at dksX1_query_0 15 rfl rfl)
theorem dX1_query_16 : decode cX1_query 16 = .ok (.iconst (-1), 1) := dk_2 (dk_at dksX1_query_0 16 rfl rfl)
theorem dX1_query_17 : decode cX1_query 17 = .ok (.invokevirtual 311, 3) := dk_182 1 55 (dk_at dksX1_query_0 17 rfl rfl)
theorem dX1_query_20 : decode cX1_query 20 = .ok (.istore_n 1, 1) := dk_60 (dk_at dksX1_query_0 20 rfl rfl)
theorem dX1_query_21 : decode cX1_query 21 = .ok (.aload_n 0, 1) := dk_42 (dk_at dksX1_query_0 21 rfl rfl)
theorem dX1_query_22 : decode cX1_query 22 = .ok (.iconst 0, 1) := dk_3 (dk_at dksX1_query_0 22 rfl rfl)
theorem dX1_query_23 : decode cX1_query 23 = .ok (.putfield 90, 3) := dk_181 0 90 (dk_at dksX1_query_1 0 rfl rfl)
theorem dX1_query_26 : decode cX1_query 26 = .ok (.iload_n 1, 1) := dk_27 (dk_at dksX1_query_1 3 rfl rfl)
theorem dX1_query_27 : decode cX1_query 27 = .ok (.ireturn, 1) := dk_172 (dk_at dksX1_query_1 4 rfl rfl)
theorem dX1_query_28 : decode cX1_query 28 = .ok (.astore_n 1, 1) := dk_76 (dk_at dksX1_query_1 5 rfl rfl)
theorem dX1_query_29 : decode cX1_query 29 = .ok (.bipush (-100), 2) := dk_16 156 (dk_at dksX1_query_1 6 rfl rfl)
theorem dX1_query_31 : decode cX1_query 31 = .ok (.aload_n 1, 1) := dk_43 (dk_at dksX1_query_1 8 rfl rfl)
theorem dX1_query_32 : decode cX1_query 32 = .ok (.getfield 316, 3) := dk_180 1 60 (dk_at dksX1_query_1 9 rfl rfl)
theorem dX1_query_35 : decode cX1_query 35 = .ok (.isub, 1) := dk_100 (dk_at dksX1_query_1 12 rfl rfl)
theorem dX1_query_36 : decode cX1_query 36 = .ok (.istore_n 2, 1) := dk_61 (dk_at dksX1_query_1 13 rfl rfl)
theorem dX1_query_37 : decode cX1_query 37 = .ok (.aload_n 0, 1) := dk_42 (dk_at dksX1_query_1 14 rfl rfl)
theorem dX1_query_38 : decode cX1_query 38 = .ok (.iconst 0, 1) := dk_3 (dk_at dksX1_query_1 15 rfl rfl)
theorem dX1_query_39 : decode cX1_query 39 = .ok (.putfield 90, 3) := dk_181 0 90 (dk_at dksX1_query_1 16 rfl rfl)
theorem dX1_query_42 : decode cX1_query 42 = .ok (.iload_n 2, 1) := dk_28 (dk_at dksX1_query_1 19 rfl rfl)
theorem dX1_query_43 : decode cX1_query 43 = .ok (.ireturn, 1) := dk_172 (dk_at dksX1_query_1 20 rfl rfl)
theorem dX1_query_44 : decode cX1_query 44 = .ok (.astore_n 3, 1) := dk_78 (dk_at dksX1_query_1 21 rfl rfl)
theorem dX1_query_45 : decode cX1_query 45 = .ok (.aload_n 0, 1) := dk_42 (dk_at dksX1_query_1 22 rfl rfl)
theorem dX1_query_46 : decode cX1_query 46 = .ok (.iconst 0, 1) := dk_3 (dk_at dksX1_query_1 23 rfl rfl)
theorem dX1_query_47 : decode cX1_query 47 = .ok (.putfield 90, 3) := dk_181 0 90 (dk_at dksX1_query_2 0 rfl rfl)
theorem dX1_query_50 : decode cX1_query 50 = .ok (.aload_n 3, 1) := dk_45 (dk_at dksX1_query_2 3 rfl rfl)
theorem dX1_query_51 : decode cX1_query 51 = .ok (.athrow, 1) := dk_191 (dk_at dksX1_query_2 4 rfl rfl)
abbrev cX1_inRange : ByteArray := prog_1_method_1_code
def yX1_inRange : MethodName := ⟨RX1, "inRange", "(III)Z"⟩
def dkwX1_inRange_0 : List UInt8 := [26, 27, 161, 0, 12, 26, 28, 163, 0, 7, 4, 167, 0, 4, 3, 172]
abbrev dktX1_inRange_0 : List UInt8 := dkwX1_inRange_0 ++ []
theorem dksX1_inRange_0 : cX1_inRange.data.toList.drop 0 = dktX1_inRange_0 := by decide +kernel
theorem dX1_inRange_0 : decode cX1_inRange 0 = .ok (.iload_n 0, 1) := dk_26 (dk_at dksX1_inRange_0 0 rfl rfl)
theorem dX1_inRange_1 : decode cX1_inRange 1 = .ok (.iload_n 1, 1) := dk_27 (dk_at dksX1_inRange_0 1 rfl rfl)
theorem dX1_inRange_2 : decode cX1_inRange 2 = .ok (.if_icmp .lt 12, 3) := dk_161 0 12 (dk_at dksX1_inRange_0 2 rfl rfl)
theorem dX1_inRange_5 : decode cX1_inRange 5 = .ok (.iload_n 0, 1) := dk_26 (dk_at dksX1_inRange_0 5 rfl rfl)
theorem dX1_inRange_6 : decode cX1_inRange 6 = .ok (.iload_n 2, 1) := dk_28 (dk_at dksX1_inRange_0 6 rfl rfl)
theorem dX1_inRange_7 : decode cX1_inRange 7 = .ok (.if_icmp .gt 7, 3) := dk_163 0 7 (dk_at dksX1_inRange_0 7 rfl rfl)
theorem dX1_inRange_10 : decode cX1_inRange 10 = .ok (.iconst 1, 1) := dk_4 (dk_at dksX1_inRange_0 10 rfl rfl)
theorem dX1_inRange_11 : decode cX1_inRange 11 = .ok (.goto 4, 3) := dk_167 0 4 (dk_at dksX1_inRange_0 11 rfl rfl)
theorem dX1_inRange_14 : decode cX1_inRange 14 = .ok (.iconst 0, 1) := dk_3 (dk_at dksX1_inRange_0 14 rfl rfl)
theorem dX1_inRange_15 : decode cX1_inRange 15 = .ok (.ireturn, 1) := dk_172 (dk_at dksX1_inRange_0 15 rfl rfl)
abbrev cX1_hits : ByteArray := prog_1_method_38_code
def yX1_hits : MethodName := ⟨RX1, "hits", "(I)I"⟩
def dkwX1_hits_1 : List UInt8 := [182, 1, 42, 153, 0, 7, 4, 167, 0, 4, 3, 96, 61, 132, 3, 1, 167, 255, 222, 28, 172]
abbrev dktX1_hits_1 : List UInt8 := dkwX1_hits_1 ++ []
def dkwX1_hits_0 : List UInt8 := [3, 61, 3, 62, 29, 42, 180, 0, 39, 180, 0, 80, 182, 0, 54, 162, 0, 26, 28, 42, 29, 27]
abbrev dktX1_hits_0 : List UInt8 := dkwX1_hits_0 ++ dktX1_hits_1
theorem dksX1_hits_0 : cX1_hits.data.toList.drop 0 = dktX1_hits_0 := by decide +kernel
theorem dksX1_hits_1 : cX1_hits.data.toList.drop 22 = dktX1_hits_1 := dk_seg dksX1_hits_0 22 rfl rfl
theorem dX1_hits_0 : decode cX1_hits 0 = .ok (.iconst 0, 1) := dk_3 (dk_at dksX1_hits_0 0 rfl rfl)
theorem dX1_hits_1 : decode cX1_hits 1 = .ok (.istore_n 2, 1) := dk_61 (dk_at dksX1_hits_0 1 rfl rfl)
theorem dX1_hits_2 : decode cX1_hits 2 = .ok (.iconst 0, 1) := dk_3 (dk_at dksX1_hits_0 2 rfl rfl)
theorem dX1_hits_3 : decode cX1_hits 3 = .ok (.istore_n 3, 1) := dk_62 (dk_at dksX1_hits_0 3 rfl rfl)
theorem dX1_hits_4 : decode cX1_hits 4 = .ok (.iload_n 3, 1) := dk_29 (dk_at dksX1_hits_0 4 rfl rfl)
theorem dX1_hits_5 : decode cX1_hits 5 = .ok (.aload_n 0, 1) := dk_42 (dk_at dksX1_hits_0 5 rfl rfl)
theorem dX1_hits_6 : decode cX1_hits 6 = .ok (.getfield 39, 3) := dk_180 0 39 (dk_at dksX1_hits_0 6 rfl rfl)
theorem dX1_hits_9 : decode cX1_hits 9 = .ok (.getfield 80, 3) := dk_180 0 80 (dk_at dksX1_hits_0 9 rfl rfl)
theorem dX1_hits_12 : decode cX1_hits 12 = .ok (.invokevirtual 54, 3) := dk_182 0 54 (dk_at dksX1_hits_0 12 rfl rfl)
theorem dX1_hits_15 : decode cX1_hits 15 = .ok (.if_icmp .ge 26, 3) := dk_162 0 26 (dk_at dksX1_hits_0 15 rfl rfl)
theorem dX1_hits_18 : decode cX1_hits 18 = .ok (.iload_n 2, 1) := dk_28 (dk_at dksX1_hits_0 18 rfl rfl)
theorem dX1_hits_19 : decode cX1_hits 19 = .ok (.aload_n 0, 1) := dk_42 (dk_at dksX1_hits_0 19 rfl rfl)
theorem dX1_hits_20 : decode cX1_hits 20 = .ok (.iload_n 3, 1) := dk_29 (dk_at dksX1_hits_0 20 rfl rfl)
theorem dX1_hits_21 : decode cX1_hits 21 = .ok (.iload_n 1, 1) := dk_27 (dk_at dksX1_hits_0 21 rfl rfl)
theorem dX1_hits_22 : decode cX1_hits 22 = .ok (.invokevirtual 298, 3) := dk_182 1 42 (dk_at dksX1_hits_1 0 rfl rfl)
theorem dX1_hits_25 : decode cX1_hits 25 = .ok (.ifCond .eq 7, 3) := dk_153 0 7 (dk_at dksX1_hits_1 3 rfl rfl)
theorem dX1_hits_28 : decode cX1_hits 28 = .ok (.iconst 1, 1) := dk_4 (dk_at dksX1_hits_1 6 rfl rfl)
theorem dX1_hits_29 : decode cX1_hits 29 = .ok (.goto 4, 3) := dk_167 0 4 (dk_at dksX1_hits_1 7 rfl rfl)
theorem dX1_hits_32 : decode cX1_hits 32 = .ok (.iconst 0, 1) := dk_3 (dk_at dksX1_hits_1 10 rfl rfl)
theorem dX1_hits_33 : decode cX1_hits 33 = .ok (.iadd, 1) := dk_96 (dk_at dksX1_hits_1 11 rfl rfl)
theorem dX1_hits_34 : decode cX1_hits 34 = .ok (.istore_n 2, 1) := dk_61 (dk_at dksX1_hits_1 12 rfl rfl)
theorem dX1_hits_35 : decode cX1_hits 35 = .ok (.iinc 3 1, 3) := dk_132 3 1 (dk_at dksX1_hits_1 13 rfl rfl)
theorem dX1_hits_38 : decode cX1_hits 38 = .ok (.goto (-34), 3) := dk_167 255 222 (dk_at dksX1_hits_1 16 rfl rfl)
theorem dX1_hits_41 : decode cX1_hits 41 = .ok (.iload_n 2, 1) := dk_28 (dk_at dksX1_hits_1 19 rfl rfl)
theorem dX1_hits_42 : decode cX1_hits 42 = .ok (.ireturn, 1) := dk_172 (dk_at dksX1_hits_1 20 rfl rfl)
abbrev cX1_holdsBut : ByteArray := prog_1_method_37_code
def yX1_holdsBut : MethodName := ⟨RX1, "holdsBut", "(II)Z"⟩
def dkwX1_holdsBut_2 : List UInt8 := [167, 0, 4, 3, 126, 62, 132, 4, 1, 167, 255, 204, 29, 172]
abbrev dktX1_holdsBut_2 : List UInt8 := dkwX1_holdsBut_2 ++ []
def dkwX1_holdsBut_1 : List UInt8 := [42, 180, 1, 33, 21, 4, 182, 0, 165, 192, 1, 36, 42, 180, 0, 39, 27, 182, 1, 38, 153, 0, 7, 4]
abbrev dktX1_holdsBut_1 : List UInt8 := dkwX1_holdsBut_1 ++ dktX1_holdsBut_2
def dkwX1_holdsBut_0 : List UInt8 := [4, 62, 3, 54, 4, 21, 4, 42, 180, 1, 33, 182, 0, 54, 162, 0, 46, 29, 21, 4, 28, 159, 0, 26]
abbrev dktX1_holdsBut_0 : List UInt8 := dkwX1_holdsBut_0 ++ dktX1_holdsBut_1
theorem dksX1_holdsBut_0 : cX1_holdsBut.data.toList.drop 0 = dktX1_holdsBut_0 := by decide +kernel
theorem dksX1_holdsBut_1 : cX1_holdsBut.data.toList.drop 24 = dktX1_holdsBut_1 := dk_seg dksX1_holdsBut_0 24 rfl rfl
theorem dksX1_holdsBut_2 : cX1_holdsBut.data.toList.drop 48 = dktX1_holdsBut_2 := dk_seg dksX1_holdsBut_1 24 rfl rfl
theorem dX1_holdsBut_0 : decode cX1_holdsBut 0 = .ok (.iconst 1, 1) := dk_4 (dk_at dksX1_holdsBut_0 0 rfl rfl)
theorem dX1_holdsBut_1 : decode cX1_holdsBut 1 = .ok (.istore_n 3, 1) := dk_62 (dk_at dksX1_holdsBut_0 1 rfl rfl)
theorem dX1_holdsBut_2 : decode cX1_holdsBut 2 = .ok (.iconst 0, 1) := dk_3 (dk_at dksX1_holdsBut_0 2 rfl rfl)
theorem dX1_holdsBut_3 : decode cX1_holdsBut 3 = .ok (.istore 4, 2) := dk_54 4 (dk_at dksX1_holdsBut_0 3 rfl rfl)
theorem dX1_holdsBut_5 : decode cX1_holdsBut 5 = .ok (.iload 4, 2) := dk_21 4 (dk_at dksX1_holdsBut_0 5 rfl rfl)
theorem dX1_holdsBut_7 : decode cX1_holdsBut 7 = .ok (.aload_n 0, 1) := dk_42 (dk_at dksX1_holdsBut_0 7 rfl rfl)
theorem dX1_holdsBut_8 : decode cX1_holdsBut 8 = .ok (.getfield 289, 3) := dk_180 1 33 (dk_at dksX1_holdsBut_0 8 rfl rfl)
theorem dX1_holdsBut_11 : decode cX1_holdsBut 11 = .ok (.invokevirtual 54, 3) := dk_182 0 54 (dk_at dksX1_holdsBut_0 11 rfl rfl)
theorem dX1_holdsBut_14 : decode cX1_holdsBut 14 = .ok (.if_icmp .ge 46, 3) := dk_162 0 46 (dk_at dksX1_holdsBut_0 14 rfl rfl)
theorem dX1_holdsBut_17 : decode cX1_holdsBut 17 = .ok (.iload_n 3, 1) := dk_29 (dk_at dksX1_holdsBut_0 17 rfl rfl)
theorem dX1_holdsBut_18 : decode cX1_holdsBut 18 = .ok (.iload 4, 2) := dk_21 4 (dk_at dksX1_holdsBut_0 18 rfl rfl)
theorem dX1_holdsBut_20 : decode cX1_holdsBut 20 = .ok (.iload_n 2, 1) := dk_28 (dk_at dksX1_holdsBut_0 20 rfl rfl)
theorem dX1_holdsBut_21 : decode cX1_holdsBut 21 = .ok (.if_icmp .eq 26, 3) := dk_159 0 26 (dk_at dksX1_holdsBut_0 21 rfl rfl)
theorem dX1_holdsBut_24 : decode cX1_holdsBut 24 = .ok (.aload_n 0, 1) := dk_42 (dk_at dksX1_holdsBut_1 0 rfl rfl)
theorem dX1_holdsBut_25 : decode cX1_holdsBut 25 = .ok (.getfield 289, 3) := dk_180 1 33 (dk_at dksX1_holdsBut_1 1 rfl rfl)
theorem dX1_holdsBut_28 : decode cX1_holdsBut 28 = .ok (.iload 4, 2) := dk_21 4 (dk_at dksX1_holdsBut_1 4 rfl rfl)
theorem dX1_holdsBut_30 : decode cX1_holdsBut 30 = .ok (.invokevirtual 165, 3) := dk_182 0 165 (dk_at dksX1_holdsBut_1 6 rfl rfl)
theorem dX1_holdsBut_33 : decode cX1_holdsBut 33 = .ok (.checkcast 292, 3) := dk_192 1 36 (dk_at dksX1_holdsBut_1 9 rfl rfl)
theorem dX1_holdsBut_36 : decode cX1_holdsBut 36 = .ok (.aload_n 0, 1) := dk_42 (dk_at dksX1_holdsBut_1 12 rfl rfl)
theorem dX1_holdsBut_37 : decode cX1_holdsBut 37 = .ok (.getfield 39, 3) := dk_180 0 39 (dk_at dksX1_holdsBut_1 13 rfl rfl)
theorem dX1_holdsBut_40 : decode cX1_holdsBut 40 = .ok (.iload_n 1, 1) := dk_27 (dk_at dksX1_holdsBut_1 16 rfl rfl)
theorem dX1_holdsBut_41 : decode cX1_holdsBut 41 = .ok (.invokevirtual 294, 3) := dk_182 1 38 (dk_at dksX1_holdsBut_1 17 rfl rfl)
theorem dX1_holdsBut_44 : decode cX1_holdsBut 44 = .ok (.ifCond .eq 7, 3) := dk_153 0 7 (dk_at dksX1_holdsBut_1 20 rfl rfl)
theorem dX1_holdsBut_47 : decode cX1_holdsBut 47 = .ok (.iconst 1, 1) := dk_4 (dk_at dksX1_holdsBut_1 23 rfl rfl)
theorem dX1_holdsBut_48 : decode cX1_holdsBut 48 = .ok (.goto 4, 3) := dk_167 0 4 (dk_at dksX1_holdsBut_2 0 rfl rfl)
theorem dX1_holdsBut_51 : decode cX1_holdsBut 51 = .ok (.iconst 0, 1) := dk_3 (dk_at dksX1_holdsBut_2 3 rfl rfl)
theorem dX1_holdsBut_52 : decode cX1_holdsBut 52 = .ok (.iand, 1) := dk_126 (dk_at dksX1_holdsBut_2 4 rfl rfl)
theorem dX1_holdsBut_53 : decode cX1_holdsBut 53 = .ok (.istore_n 3, 1) := dk_62 (dk_at dksX1_holdsBut_2 5 rfl rfl)
theorem dX1_holdsBut_54 : decode cX1_holdsBut 54 = .ok (.iinc 4 1, 3) := dk_132 4 1 (dk_at dksX1_holdsBut_2 6 rfl rfl)
theorem dX1_holdsBut_57 : decode cX1_holdsBut 57 = .ok (.goto (-52), 3) := dk_167 255 204 (dk_at dksX1_holdsBut_2 9 rfl rfl)
theorem dX1_holdsBut_60 : decode cX1_holdsBut 60 = .ok (.iload_n 3, 1) := dk_29 (dk_at dksX1_holdsBut_2 12 rfl rfl)
theorem dX1_holdsBut_61 : decode cX1_holdsBut 61 = .ok (.ireturn, 1) := dk_172 (dk_at dksX1_holdsBut_2 13 rfl rfl)
abbrev cX1_save : ByteArray := prog_1_method_45_code
def yX1_save : MethodName := ⟨RX1, "save", "()I"⟩
def dkwX1_save_1 : List UInt8 := [182, 0, 54, 172]
abbrev dktX1_save_1 : List UInt8 := dkwX1_save_1 ++ []
def dkwX1_save_0 : List UInt8 := [42, 187, 0, 36, 89, 42, 180, 0, 39, 183, 0, 105, 181, 1, 72, 42, 180, 0, 39, 180, 0, 80]
abbrev dktX1_save_0 : List UInt8 := dkwX1_save_0 ++ dktX1_save_1
theorem dksX1_save_0 : cX1_save.data.toList.drop 0 = dktX1_save_0 := by decide +kernel
theorem dksX1_save_1 : cX1_save.data.toList.drop 22 = dktX1_save_1 := dk_seg dksX1_save_0 22 rfl rfl
theorem dX1_save_0 : decode cX1_save 0 = .ok (.aload_n 0, 1) := dk_42 (dk_at dksX1_save_0 0 rfl rfl)
theorem dX1_save_1 : decode cX1_save 1 = .ok (.new 36, 3) := dk_187 0 36 (dk_at dksX1_save_0 1 rfl rfl)
theorem dX1_save_4 : decode cX1_save 4 = .ok (.dup, 1) := dk_89 (dk_at dksX1_save_0 4 rfl rfl)
theorem dX1_save_5 : decode cX1_save 5 = .ok (.aload_n 0, 1) := dk_42 (dk_at dksX1_save_0 5 rfl rfl)
theorem dX1_save_6 : decode cX1_save 6 = .ok (.getfield 39, 3) := dk_180 0 39 (dk_at dksX1_save_0 6 rfl rfl)
theorem dX1_save_9 : decode cX1_save 9 = .ok (.invokespecial 105, 3) := dk_183 0 105 (dk_at dksX1_save_0 9 rfl rfl)
theorem dX1_save_12 : decode cX1_save 12 = .ok (.putfield 328, 3) := dk_181 1 72 (dk_at dksX1_save_0 12 rfl rfl)
theorem dX1_save_15 : decode cX1_save 15 = .ok (.aload_n 0, 1) := dk_42 (dk_at dksX1_save_0 15 rfl rfl)
theorem dX1_save_16 : decode cX1_save 16 = .ok (.getfield 39, 3) := dk_180 0 39 (dk_at dksX1_save_0 16 rfl rfl)
theorem dX1_save_19 : decode cX1_save 19 = .ok (.getfield 80, 3) := dk_180 0 80 (dk_at dksX1_save_0 19 rfl rfl)
theorem dX1_save_22 : decode cX1_save 22 = .ok (.invokevirtual 54, 3) := dk_182 0 54 (dk_at dksX1_save_1 0 rfl rfl)
theorem dX1_save_25 : decode cX1_save 25 = .ok (.ireturn, 1) := dk_172 (dk_at dksX1_save_1 3 rfl rfl)
abbrev cX1_feed : ByteArray := prog_1_method_11_code
def yX1_feed : MethodName := ⟨RX1, "feed", "(C)I"⟩
def dkwX1_feed_1 : List UInt8 := [180, 0, 90, 27, 85, 42, 89, 180, 0, 90, 4, 96, 181, 0, 90, 42, 180, 0, 90, 172]
abbrev dktX1_feed_1 : List UInt8 := dkwX1_feed_1 ++ []
def dkwX1_feed_0 : List UInt8 := [42, 180, 0, 90, 16, 60, 162, 0, 7, 4, 167, 0, 4, 3, 184, 0, 94, 42, 180, 0, 50, 42]
abbrev dktX1_feed_0 : List UInt8 := dkwX1_feed_0 ++ dktX1_feed_1
theorem dksX1_feed_0 : cX1_feed.data.toList.drop 0 = dktX1_feed_0 := by decide +kernel
theorem dksX1_feed_1 : cX1_feed.data.toList.drop 22 = dktX1_feed_1 := dk_seg dksX1_feed_0 22 rfl rfl
theorem dX1_feed_0 : decode cX1_feed 0 = .ok (.aload_n 0, 1) := dk_42 (dk_at dksX1_feed_0 0 rfl rfl)
theorem dX1_feed_1 : decode cX1_feed 1 = .ok (.getfield 90, 3) := dk_180 0 90 (dk_at dksX1_feed_0 1 rfl rfl)
theorem dX1_feed_4 : decode cX1_feed 4 = .ok (.bipush 60, 2) := dk_16 60 (dk_at dksX1_feed_0 4 rfl rfl)
theorem dX1_feed_6 : decode cX1_feed 6 = .ok (.if_icmp .ge 7, 3) := dk_162 0 7 (dk_at dksX1_feed_0 6 rfl rfl)
theorem dX1_feed_9 : decode cX1_feed 9 = .ok (.iconst 1, 1) := dk_4 (dk_at dksX1_feed_0 9 rfl rfl)
theorem dX1_feed_10 : decode cX1_feed 10 = .ok (.goto 4, 3) := dk_167 0 4 (dk_at dksX1_feed_0 10 rfl rfl)
theorem dX1_feed_13 : decode cX1_feed 13 = .ok (.iconst 0, 1) := dk_3 (dk_at dksX1_feed_0 13 rfl rfl)
theorem dX1_feed_14 : decode cX1_feed 14 = .ok (.invokestatic 94, 3) := dk_184 0 94 (dk_at dksX1_feed_0 14 rfl rfl)
theorem dX1_feed_17 : decode cX1_feed 17 = .ok (.aload_n 0, 1) := dk_42 (dk_at dksX1_feed_0 17 rfl rfl)
theorem dX1_feed_18 : decode cX1_feed 18 = .ok (.getfield 50, 3) := dk_180 0 50 (dk_at dksX1_feed_0 18 rfl rfl)
theorem dX1_feed_21 : decode cX1_feed 21 = .ok (.aload_n 0, 1) := dk_42 (dk_at dksX1_feed_0 21 rfl rfl)
theorem dX1_feed_22 : decode cX1_feed 22 = .ok (.getfield 90, 3) := dk_180 0 90 (dk_at dksX1_feed_1 0 rfl rfl)
theorem dX1_feed_25 : decode cX1_feed 25 = .ok (.iload_n 1, 1) := dk_27 (dk_at dksX1_feed_1 3 rfl rfl)
theorem dX1_feed_26 : decode cX1_feed 26 = .ok (.castore, 1) := dk_85 (dk_at dksX1_feed_1 4 rfl rfl)
theorem dX1_feed_27 : decode cX1_feed 27 = .ok (.aload_n 0, 1) := dk_42 (dk_at dksX1_feed_1 5 rfl rfl)
theorem dX1_feed_28 : decode cX1_feed 28 = .ok (.dup, 1) := dk_89 (dk_at dksX1_feed_1 6 rfl rfl)
theorem dX1_feed_29 : decode cX1_feed 29 = .ok (.getfield 90, 3) := dk_180 0 90 (dk_at dksX1_feed_1 7 rfl rfl)
theorem dX1_feed_32 : decode cX1_feed 32 = .ok (.iconst 1, 1) := dk_4 (dk_at dksX1_feed_1 10 rfl rfl)
theorem dX1_feed_33 : decode cX1_feed 33 = .ok (.iadd, 1) := dk_96 (dk_at dksX1_feed_1 11 rfl rfl)
theorem dX1_feed_34 : decode cX1_feed 34 = .ok (.putfield 90, 3) := dk_181 0 90 (dk_at dksX1_feed_1 12 rfl rfl)
theorem dX1_feed_37 : decode cX1_feed 37 = .ok (.aload_n 0, 1) := dk_42 (dk_at dksX1_feed_1 15 rfl rfl)
theorem dX1_feed_38 : decode cX1_feed 38 = .ok (.getfield 90, 3) := dk_180 0 90 (dk_at dksX1_feed_1 16 rfl rfl)
theorem dX1_feed_41 : decode cX1_feed 41 = .ok (.ireturn, 1) := dk_172 (dk_at dksX1_feed_1 19 rfl rfl)
abbrev cX1_checkState : ByteArray := prog_1_method_3_code
def yX1_checkState : MethodName := ⟨RX1, "checkState", "(Z)V"⟩
def dkwX1_checkState_0 : List UInt8 := [26, 154, 0, 11, 187, 0, 7, 89, 183, 0, 9, 191, 177]
abbrev dktX1_checkState_0 : List UInt8 := dkwX1_checkState_0 ++ []
theorem dksX1_checkState_0 : cX1_checkState.data.toList.drop 0 = dktX1_checkState_0 := by decide +kernel
theorem dX1_checkState_0 : decode cX1_checkState 0 = .ok (.iload_n 0, 1) := dk_26 (dk_at dksX1_checkState_0 0 rfl rfl)
theorem dX1_checkState_1 : decode cX1_checkState 1 = .ok (.ifCond .ne 11, 3) := dk_154 0 11 (dk_at dksX1_checkState_0 1 rfl rfl)
theorem dX1_checkState_4 : decode cX1_checkState 4 = .ok (.new 7, 3) := dk_187 0 7 (dk_at dksX1_checkState_0 4 rfl rfl)
theorem dX1_checkState_7 : decode cX1_checkState 7 = .ok (.dup, 1) := dk_89 (dk_at dksX1_checkState_0 7 rfl rfl)
theorem dX1_checkState_8 : decode cX1_checkState 8 = .ok (.invokespecial 9, 3) := dk_183 0 9 (dk_at dksX1_checkState_0 8 rfl rfl)
theorem dX1_checkState_11 : decode cX1_checkState 11 = .ok (.athrow, 1) := dk_191 (dk_at dksX1_checkState_0 11 rfl rfl)
theorem dX1_checkState_12 : decode cX1_checkState 12 = .ok (.return_, 1) := dk_177 (dk_at dksX1_checkState_0 12 rfl rfl)
abbrev cX1_add : ByteArray := prog_1_method_13_code
def yX1_add : MethodName := ⟨RX1, "add", "()I"⟩
def dkwX1_add_4 : List UInt8 := [58, 4, 42, 3, 181, 0, 90, 25, 4, 191]
abbrev dktX1_add_4 : List UInt8 := dkwX1_add_4 ++ []
def dkwX1_add_3 : List UInt8 := [28, 62, 42, 3, 181, 0, 90, 29, 172, 76, 42, 43, 181, 0, 125, 187, 0, 129, 89, 183, 0, 131, 191]
abbrev dktX1_add_3 : List UInt8 := dkwX1_add_3 ++ dktX1_add_4
def dkwX1_add_2 : List UInt8 := [42, 180, 0, 50, 3, 42, 180, 0, 90, 184, 0, 110, 183, 0, 114, 182, 0, 117, 61, 42, 43, 182, 0, 120]
abbrev dktX1_add_2 : List UInt8 := dkwX1_add_2 ++ dktX1_add_3
def dkwX1_add_1 : List UInt8 := [167, 0, 4, 3, 184, 0, 94, 187, 0, 36, 89, 42, 180, 0, 39, 183, 0, 105, 76, 43, 187, 0, 108, 89]
abbrev dktX1_add_1 : List UInt8 := dkwX1_add_1 ++ dktX1_add_2
def dkwX1_add_0 : List UInt8 := [42, 182, 0, 98, 184, 0, 102, 42, 180, 0, 39, 180, 0, 80, 182, 0, 54, 16, 40, 162, 0, 7, 4]
abbrev dktX1_add_0 : List UInt8 := dkwX1_add_0 ++ dktX1_add_1
theorem dksX1_add_0 : cX1_add.data.toList.drop 0 = dktX1_add_0 := by decide +kernel
theorem dksX1_add_1 : cX1_add.data.toList.drop 23 = dktX1_add_1 := dk_seg dksX1_add_0 23 rfl rfl
theorem dksX1_add_2 : cX1_add.data.toList.drop 47 = dktX1_add_2 := dk_seg dksX1_add_1 24 rfl rfl
theorem dksX1_add_3 : cX1_add.data.toList.drop 71 = dktX1_add_3 := dk_seg dksX1_add_2 24 rfl rfl
theorem dksX1_add_4 : cX1_add.data.toList.drop 94 = dktX1_add_4 := dk_seg dksX1_add_3 23 rfl rfl
theorem dX1_add_0 : decode cX1_add 0 = .ok (.aload_n 0, 1) := dk_42 (dk_at dksX1_add_0 0 rfl rfl)
theorem dX1_add_1 : decode cX1_add 1 = .ok (.invokevirtual 98, 3) := dk_182 0 98 (dk_at dksX1_add_0 1 rfl rfl)
theorem dX1_add_4 : decode cX1_add 4 = .ok (.invokestatic 102, 3) := dk_184 0 102 (dk_at dksX1_add_0 4 rfl rfl)
theorem dX1_add_7 : decode cX1_add 7 = .ok (.aload_n 0, 1) := dk_42 (dk_at dksX1_add_0 7 rfl rfl)
theorem dX1_add_8 : decode cX1_add 8 = .ok (.getfield 39, 3) := dk_180 0 39 (dk_at dksX1_add_0 8 rfl rfl)
theorem dX1_add_11 : decode cX1_add 11 = .ok (.getfield 80, 3) := dk_180 0 80 (dk_at dksX1_add_0 11 rfl rfl)
theorem dX1_add_14 : decode cX1_add 14 = .ok (.invokevirtual 54, 3) := dk_182 0 54 (dk_at dksX1_add_0 14 rfl rfl)
theorem dX1_add_17 : decode cX1_add 17 = .ok (.bipush 40, 2) := dk_16 40 (dk_at dksX1_add_0 17 rfl rfl)
theorem dX1_add_19 : decode cX1_add 19 = .ok (.if_icmp .ge 7, 3) := dk_162 0 7 (dk_at dksX1_add_0 19 rfl rfl)
theorem dX1_add_22 : decode cX1_add 22 = .ok (.iconst 1, 1) := dk_4 (dk_at dksX1_add_0 22 rfl rfl)
theorem dX1_add_23 : decode cX1_add 23 = .ok (.goto 4, 3) := dk_167 0 4 (dk_at dksX1_add_1 0 rfl rfl)
theorem dX1_add_26 : decode cX1_add 26 = .ok (.iconst 0, 1) := dk_3 (dk_at dksX1_add_1 3 rfl rfl)
theorem dX1_add_27 : decode cX1_add 27 = .ok (.invokestatic 94, 3) := dk_184 0 94 (dk_at dksX1_add_1 4 rfl rfl)
theorem dX1_add_30 : decode cX1_add 30 = .ok (.new 36, 3) := dk_187 0 36 (dk_at dksX1_add_1 7 rfl rfl)
theorem dX1_add_33 : decode cX1_add 33 = .ok (.dup, 1) := dk_89 (dk_at dksX1_add_1 10 rfl rfl)
theorem dX1_add_34 : decode cX1_add 34 = .ok (.aload_n 0, 1) := dk_42 (dk_at dksX1_add_1 11 rfl rfl)
theorem dX1_add_35 : decode cX1_add 35 = .ok (.getfield 39, 3) := dk_180 0 39 (dk_at dksX1_add_1 12 rfl rfl)
theorem dX1_add_38 : decode cX1_add 38 = .ok (.invokespecial 105, 3) := dk_183 0 105 (dk_at dksX1_add_1 15 rfl rfl)
theorem dX1_add_41 : decode cX1_add 41 = .ok (.astore_n 1, 1) := dk_76 (dk_at dksX1_add_1 18 rfl rfl)
theorem dX1_add_42 : decode cX1_add 42 = .ok (.aload_n 1, 1) := dk_43 (dk_at dksX1_add_1 19 rfl rfl)
theorem dX1_add_43 : decode cX1_add 43 = .ok (.new 108, 3) := dk_187 0 108 (dk_at dksX1_add_1 20 rfl rfl)
theorem dX1_add_46 : decode cX1_add 46 = .ok (.dup, 1) := dk_89 (dk_at dksX1_add_1 23 rfl rfl)
theorem dX1_add_47 : decode cX1_add 47 = .ok (.aload_n 0, 1) := dk_42 (dk_at dksX1_add_2 0 rfl rfl)
theorem dX1_add_48 : decode cX1_add 48 = .ok (.getfield 50, 3) := dk_180 0 50 (dk_at dksX1_add_2 1 rfl rfl)
theorem dX1_add_51 : decode cX1_add 51 = .ok (.iconst 0, 1) := dk_3 (dk_at dksX1_add_2 4 rfl rfl)
theorem dX1_add_52 : decode cX1_add 52 = .ok (.aload_n 0, 1) := dk_42 (dk_at dksX1_add_2 5 rfl rfl)
theorem dX1_add_53 : decode cX1_add 53 = .ok (.getfield 90, 3) := dk_180 0 90 (dk_at dksX1_add_2 6 rfl rfl)
theorem dX1_add_56 : decode cX1_add 56 = .ok (.invokestatic 110, 3) := dk_184 0 110 (dk_at dksX1_add_2 9 rfl rfl)
theorem dX1_add_59 : decode cX1_add 59 = .ok (.invokespecial 114, 3) := dk_183 0 114 (dk_at dksX1_add_2 12 rfl rfl)
theorem dX1_add_62 : decode cX1_add 62 = .ok (.invokevirtual 117, 3) := dk_182 0 117 (dk_at dksX1_add_2 15 rfl rfl)
theorem dX1_add_65 : decode cX1_add 65 = .ok (.istore_n 2, 1) := dk_61 (dk_at dksX1_add_2 18 rfl rfl)
theorem dX1_add_66 : decode cX1_add 66 = .ok (.aload_n 0, 1) := dk_42 (dk_at dksX1_add_2 19 rfl rfl)
theorem dX1_add_67 : decode cX1_add 67 = .ok (.aload_n 1, 1) := dk_43 (dk_at dksX1_add_2 20 rfl rfl)
theorem dX1_add_68 : decode cX1_add 68 = .ok (.invokevirtual 120, 3) := dk_182 0 120 (dk_at dksX1_add_2 21 rfl rfl)
theorem dX1_add_71 : decode cX1_add 71 = .ok (.iload_n 2, 1) := dk_28 (dk_at dksX1_add_3 0 rfl rfl)
theorem dX1_add_72 : decode cX1_add 72 = .ok (.istore_n 3, 1) := dk_62 (dk_at dksX1_add_3 1 rfl rfl)
theorem dX1_add_73 : decode cX1_add 73 = .ok (.aload_n 0, 1) := dk_42 (dk_at dksX1_add_3 2 rfl rfl)
theorem dX1_add_74 : decode cX1_add 74 = .ok (.iconst 0, 1) := dk_3 (dk_at dksX1_add_3 3 rfl rfl)
theorem dX1_add_75 : decode cX1_add 75 = .ok (.putfield 90, 3) := dk_181 0 90 (dk_at dksX1_add_3 4 rfl rfl)
theorem dX1_add_78 : decode cX1_add 78 = .ok (.iload_n 3, 1) := dk_29 (dk_at dksX1_add_3 7 rfl rfl)
theorem dX1_add_79 : decode cX1_add 79 = .ok (.ireturn, 1) := dk_172 (dk_at dksX1_add_3 8 rfl rfl)
theorem dX1_add_80 : decode cX1_add 80 = .ok (.astore_n 1, 1) := dk_76 (dk_at dksX1_add_3 9 rfl rfl)
theorem dX1_add_81 : decode cX1_add 81 = .ok (.aload_n 0, 1) := dk_42 (dk_at dksX1_add_3 10 rfl rfl)
theorem dX1_add_82 : decode cX1_add 82 = .ok (.aload_n 1, 1) := dk_43 (dk_at dksX1_add_3 11 rfl rfl)
theorem dX1_add_83 : decode cX1_add 83 = .ok (.putfield 125, 3) := dk_181 0 125 (dk_at dksX1_add_3 12 rfl rfl)
theorem dX1_add_86 : decode cX1_add 86 = .ok (.new 129, 3) := dk_187 0 129 (dk_at dksX1_add_3 15 rfl rfl)
theorem dX1_add_89 : decode cX1_add 89 = .ok (.dup, 1) := dk_89 (dk_at dksX1_add_3 18 rfl rfl)
theorem dX1_add_90 : decode cX1_add 90 = .ok (.invokespecial 131, 3) := dk_183 0 131 (dk_at dksX1_add_3 19 rfl rfl)
theorem dX1_add_93 : decode cX1_add 93 = .ok (.athrow, 1) := dk_191 (dk_at dksX1_add_3 22 rfl rfl)
theorem dX1_add_94 : decode cX1_add 94 = .ok (.astore 4, 2) := dk_58 4 (dk_at dksX1_add_4 0 rfl rfl)
theorem dX1_add_96 : decode cX1_add 96 = .ok (.aload_n 0, 1) := dk_42 (dk_at dksX1_add_4 2 rfl rfl)
theorem dX1_add_97 : decode cX1_add 97 = .ok (.iconst 0, 1) := dk_3 (dk_at dksX1_add_4 3 rfl rfl)
theorem dX1_add_98 : decode cX1_add 98 = .ok (.putfield 90, 3) := dk_181 0 90 (dk_at dksX1_add_4 4 rfl rfl)
theorem dX1_add_101 : decode cX1_add 101 = .ok (.aload 4, 2) := dk_25 4 (dk_at dksX1_add_4 7 rfl rfl)
theorem dX1_add_103 : decode cX1_add 103 = .ok (.athrow, 1) := dk_191 (dk_at dksX1_add_4 9 rfl rfl)
abbrev cX1_isLineText : ByteArray := prog_1_method_12_code
def yX1_isLineText : MethodName := ⟨RX1, "isLineText", "()Z"⟩
def dkwX1_isLineText_1 : List UInt8 := [180, 0, 50, 28, 52, 16, 32, 16, 126, 184, 0, 10, 126, 60, 132, 2, 1, 167, 255, 229, 27, 172]
abbrev dktX1_isLineText_1 : List UInt8 := dkwX1_isLineText_1 ++ []
def dkwX1_isLineText_0 : List UInt8 := [42, 180, 0, 90, 4, 16, 40, 184, 0, 10, 60, 3, 61, 28, 42, 180, 0, 90, 162, 0, 25, 27, 42]
abbrev dktX1_isLineText_0 : List UInt8 := dkwX1_isLineText_0 ++ dktX1_isLineText_1
theorem dksX1_isLineText_0 : cX1_isLineText.data.toList.drop 0 = dktX1_isLineText_0 := by decide +kernel
theorem dksX1_isLineText_1 : cX1_isLineText.data.toList.drop 23 = dktX1_isLineText_1 := dk_seg dksX1_isLineText_0 23 rfl rfl
theorem dX1_isLineText_0 : decode cX1_isLineText 0 = .ok (.aload_n 0, 1) := dk_42 (dk_at dksX1_isLineText_0 0 rfl rfl)
theorem dX1_isLineText_1 : decode cX1_isLineText 1 = .ok (.getfield 90, 3) := dk_180 0 90 (dk_at dksX1_isLineText_0 1 rfl rfl)
theorem dX1_isLineText_4 : decode cX1_isLineText 4 = .ok (.iconst 1, 1) := dk_4 (dk_at dksX1_isLineText_0 4 rfl rfl)
theorem dX1_isLineText_5 : decode cX1_isLineText 5 = .ok (.bipush 40, 2) := dk_16 40 (dk_at dksX1_isLineText_0 5 rfl rfl)
theorem dX1_isLineText_7 : decode cX1_isLineText 7 = .ok (.invokestatic 10, 3) := dk_184 0 10 (dk_at dksX1_isLineText_0 7 rfl rfl)
theorem dX1_isLineText_10 : decode cX1_isLineText 10 = .ok (.istore_n 1, 1) := dk_60 (dk_at dksX1_isLineText_0 10 rfl rfl)
theorem dX1_isLineText_11 : decode cX1_isLineText 11 = .ok (.iconst 0, 1) := dk_3 (dk_at dksX1_isLineText_0 11 rfl rfl)
theorem dX1_isLineText_12 : decode cX1_isLineText 12 = .ok (.istore_n 2, 1) := dk_61 (dk_at dksX1_isLineText_0 12 rfl rfl)
theorem dX1_isLineText_13 : decode cX1_isLineText 13 = .ok (.iload_n 2, 1) := dk_28 (dk_at dksX1_isLineText_0 13 rfl rfl)
theorem dX1_isLineText_14 : decode cX1_isLineText 14 = .ok (.aload_n 0, 1) := dk_42 (dk_at dksX1_isLineText_0 14 rfl rfl)
theorem dX1_isLineText_15 : decode cX1_isLineText 15 = .ok (.getfield 90, 3) := dk_180 0 90 (dk_at dksX1_isLineText_0 15 rfl rfl)
theorem dX1_isLineText_18 : decode cX1_isLineText 18 = .ok (.if_icmp .ge 25, 3) := dk_162 0 25 (dk_at dksX1_isLineText_0 18 rfl rfl)
theorem dX1_isLineText_21 : decode cX1_isLineText 21 = .ok (.iload_n 1, 1) := dk_27 (dk_at dksX1_isLineText_0 21 rfl rfl)
theorem dX1_isLineText_22 : decode cX1_isLineText 22 = .ok (.aload_n 0, 1) := dk_42 (dk_at dksX1_isLineText_0 22 rfl rfl)
theorem dX1_isLineText_23 : decode cX1_isLineText 23 = .ok (.getfield 50, 3) := dk_180 0 50 (dk_at dksX1_isLineText_1 0 rfl rfl)
theorem dX1_isLineText_26 : decode cX1_isLineText 26 = .ok (.iload_n 2, 1) := dk_28 (dk_at dksX1_isLineText_1 3 rfl rfl)
theorem dX1_isLineText_27 : decode cX1_isLineText 27 = .ok (.caload, 1) := dk_52 (dk_at dksX1_isLineText_1 4 rfl rfl)
theorem dX1_isLineText_28 : decode cX1_isLineText 28 = .ok (.bipush 32, 2) := dk_16 32 (dk_at dksX1_isLineText_1 5 rfl rfl)
theorem dX1_isLineText_30 : decode cX1_isLineText 30 = .ok (.bipush 126, 2) := dk_16 126 (dk_at dksX1_isLineText_1 7 rfl rfl)
theorem dX1_isLineText_32 : decode cX1_isLineText 32 = .ok (.invokestatic 10, 3) := dk_184 0 10 (dk_at dksX1_isLineText_1 9 rfl rfl)
theorem dX1_isLineText_35 : decode cX1_isLineText 35 = .ok (.iand, 1) := dk_126 (dk_at dksX1_isLineText_1 12 rfl rfl)
theorem dX1_isLineText_36 : decode cX1_isLineText 36 = .ok (.istore_n 1, 1) := dk_60 (dk_at dksX1_isLineText_1 13 rfl rfl)
theorem dX1_isLineText_37 : decode cX1_isLineText 37 = .ok (.iinc 2 1, 3) := dk_132 2 1 (dk_at dksX1_isLineText_1 14 rfl rfl)
theorem dX1_isLineText_40 : decode cX1_isLineText 40 = .ok (.goto (-27), 3) := dk_167 255 229 (dk_at dksX1_isLineText_1 17 rfl rfl)
theorem dX1_isLineText_43 : decode cX1_isLineText 43 = .ok (.iload_n 1, 1) := dk_27 (dk_at dksX1_isLineText_1 20 rfl rfl)
theorem dX1_isLineText_44 : decode cX1_isLineText 44 = .ok (.ireturn, 1) := dk_172 (dk_at dksX1_isLineText_1 21 rfl rfl)
abbrev cX1_checkArgument : ByteArray := prog_1_method_2_code
def yX1_checkArgument : MethodName := ⟨RX1, "checkArgument", "(Z)V"⟩
def dkwX1_checkArgument_0 : List UInt8 := [26, 154, 0, 11, 187, 0, 1, 89, 183, 0, 3, 191, 177]
abbrev dktX1_checkArgument_0 : List UInt8 := dkwX1_checkArgument_0 ++ []
theorem dksX1_checkArgument_0 : cX1_checkArgument.data.toList.drop 0 = dktX1_checkArgument_0 := by decide +kernel
theorem dX1_checkArgument_0 : decode cX1_checkArgument 0 = .ok (.iload_n 0, 1) := dk_26 (dk_at dksX1_checkArgument_0 0 rfl rfl)
theorem dX1_checkArgument_1 : decode cX1_checkArgument 1 = .ok (.ifCond .ne 11, 3) := dk_154 0 11 (dk_at dksX1_checkArgument_0 1 rfl rfl)
theorem dX1_checkArgument_4 : decode cX1_checkArgument 4 = .ok (.new 1, 3) := dk_187 0 1 (dk_at dksX1_checkArgument_0 4 rfl rfl)
theorem dX1_checkArgument_7 : decode cX1_checkArgument 7 = .ok (.dup, 1) := dk_89 (dk_at dksX1_checkArgument_0 7 rfl rfl)
theorem dX1_checkArgument_8 : decode cX1_checkArgument 8 = .ok (.invokespecial 3, 3) := dk_183 0 3 (dk_at dksX1_checkArgument_0 8 rfl rfl)
theorem dX1_checkArgument_11 : decode cX1_checkArgument 11 = .ok (.athrow, 1) := dk_191 (dk_at dksX1_checkArgument_0 11 rfl rfl)
theorem dX1_checkArgument_12 : decode cX1_checkArgument 12 = .ok (.return_, 1) := dk_177 (dk_at dksX1_checkArgument_0 12 rfl rfl)
abbrev cX1_count : ByteArray := prog_1_method_15_code
def yX1_count : MethodName := ⟨RX1, "count", "(I)I"⟩
def dkwX1_count_3 : List UInt8 := [42, 180, 0, 39, 182, 0, 138, 172, 42, 180, 0, 39, 182, 0, 141, 172]
abbrev dktX1_count_3 : List UInt8 := dkwX1_count_3 ++ []
def dkwX1_count_2 : List UInt8 := [42, 180, 0, 39, 180, 0, 80, 182, 0, 54, 172, 42, 180, 0, 39, 182, 0, 132, 172, 42, 182, 0, 135, 172]
abbrev dktX1_count_2 : List UInt8 := dkwX1_count_2 ++ dktX1_count_3
def dkwX1_count_1 : List UInt8 := [170, 0, 0, 0, 0, 62, 0, 0, 0, 0, 0, 0, 0, 3, 0, 0, 0, 30, 0, 0, 0, 41, 0, 0, 0, 49, 0, 0, 0, 54]
abbrev dktX1_count_1 : List UInt8 := dkwX1_count_1 ++ dktX1_count_2
def dkwX1_count_0 : List UInt8 := [27, 3, 7, 184, 0, 10, 184, 0, 102, 27]
abbrev dktX1_count_0 : List UInt8 := dkwX1_count_0 ++ dktX1_count_1
theorem dksX1_count_0 : cX1_count.data.toList.drop 0 = dktX1_count_0 := by decide +kernel
theorem dksX1_count_1 : cX1_count.data.toList.drop 10 = dktX1_count_1 := dk_seg dksX1_count_0 10 rfl rfl
theorem dksX1_count_2 : cX1_count.data.toList.drop 40 = dktX1_count_2 := dk_seg dksX1_count_1 30 rfl rfl
theorem dksX1_count_3 : cX1_count.data.toList.drop 64 = dktX1_count_3 := dk_seg dksX1_count_2 24 rfl rfl
theorem dX1_count_0 : decode cX1_count 0 = .ok (.iload_n 1, 1) := dk_27 (dk_at dksX1_count_0 0 rfl rfl)
theorem dX1_count_1 : decode cX1_count 1 = .ok (.iconst 0, 1) := dk_3 (dk_at dksX1_count_0 1 rfl rfl)
theorem dX1_count_2 : decode cX1_count 2 = .ok (.iconst 4, 1) := dk_7 (dk_at dksX1_count_0 2 rfl rfl)
theorem dX1_count_3 : decode cX1_count 3 = .ok (.invokestatic 10, 3) := dk_184 0 10 (dk_at dksX1_count_0 3 rfl rfl)
theorem dX1_count_6 : decode cX1_count 6 = .ok (.invokestatic 102, 3) := dk_184 0 102 (dk_at dksX1_count_0 6 rfl rfl)
theorem dX1_count_9 : decode cX1_count 9 = .ok (.iload_n 1, 1) := dk_27 (dk_at dksX1_count_0 9 rfl rfl)
theorem dX1_count_10 : decode cX1_count 10 = .ok (.tableswitch 62 0 3 #[30, 41, 49, 54], 30) := by decide +kernel
theorem dX1_count_40 : decode cX1_count 40 = .ok (.aload_n 0, 1) := dk_42 (dk_at dksX1_count_2 0 rfl rfl)
theorem dX1_count_41 : decode cX1_count 41 = .ok (.getfield 39, 3) := dk_180 0 39 (dk_at dksX1_count_2 1 rfl rfl)
theorem dX1_count_44 : decode cX1_count 44 = .ok (.getfield 80, 3) := dk_180 0 80 (dk_at dksX1_count_2 4 rfl rfl)
theorem dX1_count_47 : decode cX1_count 47 = .ok (.invokevirtual 54, 3) := dk_182 0 54 (dk_at dksX1_count_2 7 rfl rfl)
theorem dX1_count_50 : decode cX1_count 50 = .ok (.ireturn, 1) := dk_172 (dk_at dksX1_count_2 10 rfl rfl)
theorem dX1_count_51 : decode cX1_count 51 = .ok (.aload_n 0, 1) := dk_42 (dk_at dksX1_count_2 11 rfl rfl)
theorem dX1_count_52 : decode cX1_count 52 = .ok (.getfield 39, 3) := dk_180 0 39 (dk_at dksX1_count_2 12 rfl rfl)
theorem dX1_count_55 : decode cX1_count 55 = .ok (.invokevirtual 132, 3) := dk_182 0 132 (dk_at dksX1_count_2 15 rfl rfl)
theorem dX1_count_58 : decode cX1_count 58 = .ok (.ireturn, 1) := dk_172 (dk_at dksX1_count_2 18 rfl rfl)
theorem dX1_count_59 : decode cX1_count 59 = .ok (.aload_n 0, 1) := dk_42 (dk_at dksX1_count_2 19 rfl rfl)
theorem dX1_count_60 : decode cX1_count 60 = .ok (.invokevirtual 135, 3) := dk_182 0 135 (dk_at dksX1_count_2 20 rfl rfl)
theorem dX1_count_63 : decode cX1_count 63 = .ok (.ireturn, 1) := dk_172 (dk_at dksX1_count_2 23 rfl rfl)
theorem dX1_count_64 : decode cX1_count 64 = .ok (.aload_n 0, 1) := dk_42 (dk_at dksX1_count_3 0 rfl rfl)
theorem dX1_count_65 : decode cX1_count 65 = .ok (.getfield 39, 3) := dk_180 0 39 (dk_at dksX1_count_3 1 rfl rfl)
theorem dX1_count_68 : decode cX1_count 68 = .ok (.invokevirtual 138, 3) := dk_182 0 138 (dk_at dksX1_count_3 4 rfl rfl)
theorem dX1_count_71 : decode cX1_count 71 = .ok (.ireturn, 1) := dk_172 (dk_at dksX1_count_3 7 rfl rfl)
theorem dX1_count_72 : decode cX1_count 72 = .ok (.aload_n 0, 1) := dk_42 (dk_at dksX1_count_3 8 rfl rfl)
theorem dX1_count_73 : decode cX1_count 73 = .ok (.getfield 39, 3) := dk_180 0 39 (dk_at dksX1_count_3 9 rfl rfl)
theorem dX1_count_76 : decode cX1_count 76 = .ok (.invokevirtual 141, 3) := dk_182 0 141 (dk_at dksX1_count_3 12 rfl rfl)
theorem dX1_count_79 : decode cX1_count 79 = .ok (.ireturn, 1) := dk_172 (dk_at dksX1_count_3 15 rfl rfl)
abbrev cX1_columns : ByteArray := prog_1_method_14_code
def yX1_columns : MethodName := ⟨RX1, "columns", "()I"⟩
def dkwX1_columns_2 : List UInt8 := [132, 4, 1, 167, 255, 224, 27, 172]
abbrev dktX1_columns_2 : List UInt8 := dkwX1_columns_2 ++ []
def dkwX1_columns_1 : List UInt8 := [21, 4, 50, 58, 5, 27, 25, 5, 199, 0, 7, 3, 167, 0, 8, 25, 5, 182, 0, 73, 96, 60]
abbrev dktX1_columns_1 : List UInt8 := dkwX1_columns_1 ++ dktX1_columns_2
def dkwX1_columns_0 : List UInt8 := [3, 60, 42, 180, 0, 39, 180, 0, 65, 77, 44, 190, 62, 3, 54, 4, 21, 4, 29, 162, 0, 32, 44]
abbrev dktX1_columns_0 : List UInt8 := dkwX1_columns_0 ++ dktX1_columns_1
theorem dksX1_columns_0 : cX1_columns.data.toList.drop 0 = dktX1_columns_0 := by decide +kernel
theorem dksX1_columns_1 : cX1_columns.data.toList.drop 23 = dktX1_columns_1 := dk_seg dksX1_columns_0 23 rfl rfl
theorem dksX1_columns_2 : cX1_columns.data.toList.drop 45 = dktX1_columns_2 := dk_seg dksX1_columns_1 22 rfl rfl
theorem dX1_columns_0 : decode cX1_columns 0 = .ok (.iconst 0, 1) := dk_3 (dk_at dksX1_columns_0 0 rfl rfl)
theorem dX1_columns_1 : decode cX1_columns 1 = .ok (.istore_n 1, 1) := dk_60 (dk_at dksX1_columns_0 1 rfl rfl)
theorem dX1_columns_2 : decode cX1_columns 2 = .ok (.aload_n 0, 1) := dk_42 (dk_at dksX1_columns_0 2 rfl rfl)
theorem dX1_columns_3 : decode cX1_columns 3 = .ok (.getfield 39, 3) := dk_180 0 39 (dk_at dksX1_columns_0 3 rfl rfl)
theorem dX1_columns_6 : decode cX1_columns 6 = .ok (.getfield 65, 3) := dk_180 0 65 (dk_at dksX1_columns_0 6 rfl rfl)
theorem dX1_columns_9 : decode cX1_columns 9 = .ok (.astore_n 2, 1) := dk_77 (dk_at dksX1_columns_0 9 rfl rfl)
theorem dX1_columns_10 : decode cX1_columns 10 = .ok (.aload_n 2, 1) := dk_44 (dk_at dksX1_columns_0 10 rfl rfl)
theorem dX1_columns_11 : decode cX1_columns 11 = .ok (.arraylength, 1) := dk_190 (dk_at dksX1_columns_0 11 rfl rfl)
theorem dX1_columns_12 : decode cX1_columns 12 = .ok (.istore_n 3, 1) := dk_62 (dk_at dksX1_columns_0 12 rfl rfl)
theorem dX1_columns_13 : decode cX1_columns 13 = .ok (.iconst 0, 1) := dk_3 (dk_at dksX1_columns_0 13 rfl rfl)
theorem dX1_columns_14 : decode cX1_columns 14 = .ok (.istore 4, 2) := dk_54 4 (dk_at dksX1_columns_0 14 rfl rfl)
theorem dX1_columns_16 : decode cX1_columns 16 = .ok (.iload 4, 2) := dk_21 4 (dk_at dksX1_columns_0 16 rfl rfl)
theorem dX1_columns_18 : decode cX1_columns 18 = .ok (.iload_n 3, 1) := dk_29 (dk_at dksX1_columns_0 18 rfl rfl)
theorem dX1_columns_19 : decode cX1_columns 19 = .ok (.if_icmp .ge 32, 3) := dk_162 0 32 (dk_at dksX1_columns_0 19 rfl rfl)
theorem dX1_columns_22 : decode cX1_columns 22 = .ok (.aload_n 2, 1) := dk_44 (dk_at dksX1_columns_0 22 rfl rfl)
theorem dX1_columns_23 : decode cX1_columns 23 = .ok (.iload 4, 2) := dk_21 4 (dk_at dksX1_columns_1 0 rfl rfl)
theorem dX1_columns_25 : decode cX1_columns 25 = .ok (.aaload, 1) := dk_50 (dk_at dksX1_columns_1 2 rfl rfl)
theorem dX1_columns_26 : decode cX1_columns 26 = .ok (.astore 5, 2) := dk_58 5 (dk_at dksX1_columns_1 3 rfl rfl)
theorem dX1_columns_28 : decode cX1_columns 28 = .ok (.iload_n 1, 1) := dk_27 (dk_at dksX1_columns_1 5 rfl rfl)
theorem dX1_columns_29 : decode cX1_columns 29 = .ok (.aload 5, 2) := dk_25 5 (dk_at dksX1_columns_1 6 rfl rfl)
theorem dX1_columns_31 : decode cX1_columns 31 = .ok (.ifnonnull 7, 3) := dk_199 0 7 (dk_at dksX1_columns_1 8 rfl rfl)
theorem dX1_columns_34 : decode cX1_columns 34 = .ok (.iconst 0, 1) := dk_3 (dk_at dksX1_columns_1 11 rfl rfl)
theorem dX1_columns_35 : decode cX1_columns 35 = .ok (.goto 8, 3) := dk_167 0 8 (dk_at dksX1_columns_1 12 rfl rfl)
theorem dX1_columns_38 : decode cX1_columns 38 = .ok (.aload 5, 2) := dk_25 5 (dk_at dksX1_columns_1 15 rfl rfl)
theorem dX1_columns_40 : decode cX1_columns 40 = .ok (.invokevirtual 73, 3) := dk_182 0 73 (dk_at dksX1_columns_1 17 rfl rfl)
theorem dX1_columns_43 : decode cX1_columns 43 = .ok (.iadd, 1) := dk_96 (dk_at dksX1_columns_1 20 rfl rfl)
theorem dX1_columns_44 : decode cX1_columns 44 = .ok (.istore_n 1, 1) := dk_60 (dk_at dksX1_columns_1 21 rfl rfl)
theorem dX1_columns_45 : decode cX1_columns 45 = .ok (.iinc 4 1, 3) := dk_132 4 1 (dk_at dksX1_columns_2 0 rfl rfl)
theorem dX1_columns_48 : decode cX1_columns 48 = .ok (.goto (-32), 3) := dk_167 255 224 (dk_at dksX1_columns_2 3 rfl rfl)
theorem dX1_columns_51 : decode cX1_columns 51 = .ok (.iload_n 1, 1) := dk_27 (dk_at dksX1_columns_2 6 rfl rfl)
theorem dX1_columns_52 : decode cX1_columns 52 = .ok (.ireturn, 1) := dk_172 (dk_at dksX1_columns_2 7 rfl rfl)
abbrev cX1_line : ByteArray := prog_1_method_17_code
def yX1_line : MethodName := ⟨RX1, "line", "(II)I"⟩
def dkwX1_line_0 : List UInt8 := [42, 27, 182, 0, 204, 42, 27, 182, 0, 208, 28, 184, 0, 212, 172]
abbrev dktX1_line_0 : List UInt8 := dkwX1_line_0 ++ []
theorem dksX1_line_0 : cX1_line.data.toList.drop 0 = dktX1_line_0 := by decide +kernel
theorem dX1_line_0 : decode cX1_line 0 = .ok (.aload_n 0, 1) := dk_42 (dk_at dksX1_line_0 0 rfl rfl)
theorem dX1_line_1 : decode cX1_line 1 = .ok (.iload_n 1, 1) := dk_27 (dk_at dksX1_line_0 1 rfl rfl)
theorem dX1_line_2 : decode cX1_line 2 = .ok (.invokevirtual 204, 3) := dk_182 0 204 (dk_at dksX1_line_0 2 rfl rfl)
theorem dX1_line_5 : decode cX1_line 5 = .ok (.aload_n 0, 1) := dk_42 (dk_at dksX1_line_0 5 rfl rfl)
theorem dX1_line_6 : decode cX1_line 6 = .ok (.iload_n 1, 1) := dk_27 (dk_at dksX1_line_0 6 rfl rfl)
theorem dX1_line_7 : decode cX1_line 7 = .ok (.invokevirtual 208, 3) := dk_182 0 208 (dk_at dksX1_line_0 7 rfl rfl)
theorem dX1_line_10 : decode cX1_line 10 = .ok (.iload_n 2, 1) := dk_28 (dk_at dksX1_line_0 10 rfl rfl)
theorem dX1_line_11 : decode cX1_line 11 = .ok (.invokestatic 212, 3) := dk_184 0 212 (dk_at dksX1_line_0 11 rfl rfl)
theorem dX1_line_14 : decode cX1_line 14 = .ok (.ireturn, 1) := dk_172 (dk_at dksX1_line_0 14 rfl rfl)
abbrev cX1_checkLine : ByteArray := prog_1_method_10_code
def yX1_checkLine : MethodName := ⟨RX1, "checkLine", "(I)V"⟩
def dkwX1_checkLine_0 : List UInt8 := [27, 42, 180, 0, 39, 180, 0, 80, 182, 0, 54, 184, 0, 25, 177]
abbrev dktX1_checkLine_0 : List UInt8 := dkwX1_checkLine_0 ++ []
theorem dksX1_checkLine_0 : cX1_checkLine.data.toList.drop 0 = dktX1_checkLine_0 := by decide +kernel
theorem dX1_checkLine_0 : decode cX1_checkLine 0 = .ok (.iload_n 1, 1) := dk_27 (dk_at dksX1_checkLine_0 0 rfl rfl)
theorem dX1_checkLine_1 : decode cX1_checkLine 1 = .ok (.aload_n 0, 1) := dk_42 (dk_at dksX1_checkLine_0 1 rfl rfl)
theorem dX1_checkLine_2 : decode cX1_checkLine 2 = .ok (.getfield 39, 3) := dk_180 0 39 (dk_at dksX1_checkLine_0 2 rfl rfl)
theorem dX1_checkLine_5 : decode cX1_checkLine 5 = .ok (.getfield 80, 3) := dk_180 0 80 (dk_at dksX1_checkLine_0 5 rfl rfl)
theorem dX1_checkLine_8 : decode cX1_checkLine 8 = .ok (.invokevirtual 54, 3) := dk_182 0 54 (dk_at dksX1_checkLine_0 8 rfl rfl)
theorem dX1_checkLine_11 : decode cX1_checkLine 11 = .ok (.invokestatic 25, 3) := dk_184 0 25 (dk_at dksX1_checkLine_0 11 rfl rfl)
theorem dX1_checkLine_14 : decode cX1_checkLine 14 = .ok (.return_, 1) := dk_177 (dk_at dksX1_checkLine_0 14 rfl rfl)
abbrev cX1_checkIndex : ByteArray := prog_1_method_4_code
def yX1_checkIndex : MethodName := ⟨RX1, "checkIndex", "(II)V"⟩
def dkwX1_checkIndex_0 : List UInt8 := [26, 3, 27, 4, 100, 184, 0, 10, 154, 0, 11, 187, 0, 16, 89, 183, 0, 18, 191, 177]
abbrev dktX1_checkIndex_0 : List UInt8 := dkwX1_checkIndex_0 ++ []
theorem dksX1_checkIndex_0 : cX1_checkIndex.data.toList.drop 0 = dktX1_checkIndex_0 := by decide +kernel
theorem dX1_checkIndex_0 : decode cX1_checkIndex 0 = .ok (.iload_n 0, 1) := dk_26 (dk_at dksX1_checkIndex_0 0 rfl rfl)
theorem dX1_checkIndex_1 : decode cX1_checkIndex 1 = .ok (.iconst 0, 1) := dk_3 (dk_at dksX1_checkIndex_0 1 rfl rfl)
theorem dX1_checkIndex_2 : decode cX1_checkIndex 2 = .ok (.iload_n 1, 1) := dk_27 (dk_at dksX1_checkIndex_0 2 rfl rfl)
theorem dX1_checkIndex_3 : decode cX1_checkIndex 3 = .ok (.iconst 1, 1) := dk_4 (dk_at dksX1_checkIndex_0 3 rfl rfl)
theorem dX1_checkIndex_4 : decode cX1_checkIndex 4 = .ok (.isub, 1) := dk_100 (dk_at dksX1_checkIndex_0 4 rfl rfl)
theorem dX1_checkIndex_5 : decode cX1_checkIndex 5 = .ok (.invokestatic 10, 3) := dk_184 0 10 (dk_at dksX1_checkIndex_0 5 rfl rfl)
theorem dX1_checkIndex_8 : decode cX1_checkIndex 8 = .ok (.ifCond .ne 11, 3) := dk_154 0 11 (dk_at dksX1_checkIndex_0 8 rfl rfl)
theorem dX1_checkIndex_11 : decode cX1_checkIndex 11 = .ok (.new 16, 3) := dk_187 0 16 (dk_at dksX1_checkIndex_0 11 rfl rfl)
theorem dX1_checkIndex_14 : decode cX1_checkIndex 14 = .ok (.dup, 1) := dk_89 (dk_at dksX1_checkIndex_0 14 rfl rfl)
theorem dX1_checkIndex_15 : decode cX1_checkIndex 15 = .ok (.invokespecial 18, 3) := dk_183 0 18 (dk_at dksX1_checkIndex_0 15 rfl rfl)
theorem dX1_checkIndex_18 : decode cX1_checkIndex 18 = .ok (.athrow, 1) := dk_191 (dk_at dksX1_checkIndex_0 18 rfl rfl)
theorem dX1_checkIndex_19 : decode cX1_checkIndex 19 = .ok (.return_, 1) := dk_177 (dk_at dksX1_checkIndex_0 19 rfl rfl)
abbrev cX1_decoded : ByteArray := prog_1_method_16_code
def yX1_decoded : MethodName := ⟨RX1, "decoded", "(I)Ljava/lang/String;"⟩
def dkwX1_decoded_7 : List UInt8 := [25, 8, 180, 0, 191, 182, 0, 197, 58, 9, 132, 5, 1, 167, 255, 121, 25, 4, 182, 0, 200, 176]
abbrev dktX1_decoded_7 : List UInt8 := dkwX1_decoded_7 ++ []
def dkwX1_decoded_6 : List UInt8 := [44, 21, 5, 183, 0, 87, 180, 0, 183, 29, 50, 167, 0, 8, 25, 7, 180, 0, 187, 58, 8, 25, 4]
abbrev dktX1_decoded_6 : List UInt8 := dkwX1_decoded_6 ++ dktX1_decoded_7
def dkwX1_decoded_5 : List UInt8 := [192, 0, 178, 58, 7, 25, 7, 182, 0, 180, 153, 0, 28, 187, 0, 78, 89, 42, 180, 0, 39, 180, 0, 80]
abbrev dktX1_decoded_5 : List UInt8 := dkwX1_decoded_5 ++ dktX1_decoded_6
def dkwX1_decoded_4 : List UInt8 := [167, 255, 237, 21, 5, 44, 180, 0, 175, 182, 0, 54, 162, 0, 69, 44, 180, 0, 175, 21, 5, 182, 0, 165]
abbrev dktX1_decoded_4 : List UInt8 := dkwX1_decoded_4 ++ dktX1_decoded_5
def dkwX1_decoded_3 : List UInt8 := [54, 6, 3, 54, 7, 21, 7, 21, 6, 162, 0, 18, 25, 4, 16, 32, 182, 0, 171, 58, 8, 132, 7, 1]
abbrev dktX1_decoded_3 : List UInt8 := dkwX1_decoded_3 ++ dktX1_decoded_4
def dkwX1_decoded_2 : List UInt8 := [180, 0, 162, 182, 0, 54, 162, 0, 129, 44, 180, 0, 162, 21, 5, 182, 0, 165, 192, 0, 151, 182, 0, 168]
abbrev dktX1_decoded_2 : List UInt8 := dkwX1_decoded_2 ++ dktX1_decoded_3
def dkwX1_decoded_1 : List UInt8 := [184, 0, 150, 182, 0, 155, 62, 187, 0, 159, 89, 183, 0, 161, 58, 4, 3, 54, 5, 21, 5, 44]
abbrev dktX1_decoded_1 : List UInt8 := dkwX1_decoded_1 ++ dktX1_decoded_2
def dkwX1_decoded_0 : List UInt8 := [42, 180, 0, 39, 180, 0, 65, 42, 180, 0, 39, 27, 182, 0, 144, 50, 77, 44, 180, 0, 147, 27]
abbrev dktX1_decoded_0 : List UInt8 := dkwX1_decoded_0 ++ dktX1_decoded_1
theorem dksX1_decoded_0 : cX1_decoded.data.toList.drop 0 = dktX1_decoded_0 := by decide +kernel
theorem dksX1_decoded_1 : cX1_decoded.data.toList.drop 22 = dktX1_decoded_1 := dk_seg dksX1_decoded_0 22 rfl rfl
theorem dksX1_decoded_2 : cX1_decoded.data.toList.drop 44 = dktX1_decoded_2 := dk_seg dksX1_decoded_1 22 rfl rfl
theorem dksX1_decoded_3 : cX1_decoded.data.toList.drop 68 = dktX1_decoded_3 := dk_seg dksX1_decoded_2 24 rfl rfl
theorem dksX1_decoded_4 : cX1_decoded.data.toList.drop 92 = dktX1_decoded_4 := dk_seg dksX1_decoded_3 24 rfl rfl
theorem dksX1_decoded_5 : cX1_decoded.data.toList.drop 116 = dktX1_decoded_5 := dk_seg dksX1_decoded_4 24 rfl rfl
theorem dksX1_decoded_6 : cX1_decoded.data.toList.drop 140 = dktX1_decoded_6 := dk_seg dksX1_decoded_5 24 rfl rfl
theorem dksX1_decoded_7 : cX1_decoded.data.toList.drop 163 = dktX1_decoded_7 := dk_seg dksX1_decoded_6 23 rfl rfl
theorem dX1_decoded_0 : decode cX1_decoded 0 = .ok (.aload_n 0, 1) := dk_42 (dk_at dksX1_decoded_0 0 rfl rfl)
theorem dX1_decoded_1 : decode cX1_decoded 1 = .ok (.getfield 39, 3) := dk_180 0 39 (dk_at dksX1_decoded_0 1 rfl rfl)
theorem dX1_decoded_4 : decode cX1_decoded 4 = .ok (.getfield 65, 3) := dk_180 0 65 (dk_at dksX1_decoded_0 4 rfl rfl)
theorem dX1_decoded_7 : decode cX1_decoded 7 = .ok (.aload_n 0, 1) := dk_42 (dk_at dksX1_decoded_0 7 rfl rfl)
theorem dX1_decoded_8 : decode cX1_decoded 8 = .ok (.getfield 39, 3) := dk_180 0 39 (dk_at dksX1_decoded_0 8 rfl rfl)
theorem dX1_decoded_11 : decode cX1_decoded 11 = .ok (.iload_n 1, 1) := dk_27 (dk_at dksX1_decoded_0 11 rfl rfl)
theorem dX1_decoded_12 : decode cX1_decoded 12 = .ok (.invokevirtual 144, 3) := dk_182 0 144 (dk_at dksX1_decoded_0 12 rfl rfl)
theorem dX1_decoded_15 : decode cX1_decoded 15 = .ok (.aaload, 1) := dk_50 (dk_at dksX1_decoded_0 15 rfl rfl)
theorem dX1_decoded_16 : decode cX1_decoded 16 = .ok (.astore_n 2, 1) := dk_77 (dk_at dksX1_decoded_0 16 rfl rfl)
theorem dX1_decoded_17 : decode cX1_decoded 17 = .ok (.aload_n 2, 1) := dk_44 (dk_at dksX1_decoded_0 17 rfl rfl)
theorem dX1_decoded_18 : decode cX1_decoded 18 = .ok (.getfield 147, 3) := dk_180 0 147 (dk_at dksX1_decoded_0 18 rfl rfl)
theorem dX1_decoded_21 : decode cX1_decoded 21 = .ok (.iload_n 1, 1) := dk_27 (dk_at dksX1_decoded_0 21 rfl rfl)
theorem dX1_decoded_22 : decode cX1_decoded 22 = .ok (.invokestatic 150, 3) := dk_184 0 150 (dk_at dksX1_decoded_1 0 rfl rfl)
theorem dX1_decoded_25 : decode cX1_decoded 25 = .ok (.invokevirtual 155, 3) := dk_182 0 155 (dk_at dksX1_decoded_1 3 rfl rfl)
theorem dX1_decoded_28 : decode cX1_decoded 28 = .ok (.istore_n 3, 1) := dk_62 (dk_at dksX1_decoded_1 6 rfl rfl)
theorem dX1_decoded_29 : decode cX1_decoded 29 = .ok (.new 159, 3) := dk_187 0 159 (dk_at dksX1_decoded_1 7 rfl rfl)
theorem dX1_decoded_32 : decode cX1_decoded 32 = .ok (.dup, 1) := dk_89 (dk_at dksX1_decoded_1 10 rfl rfl)
theorem dX1_decoded_33 : decode cX1_decoded 33 = .ok (.invokespecial 161, 3) := dk_183 0 161 (dk_at dksX1_decoded_1 11 rfl rfl)
theorem dX1_decoded_36 : decode cX1_decoded 36 = .ok (.astore 4, 2) := dk_58 4 (dk_at dksX1_decoded_1 14 rfl rfl)
theorem dX1_decoded_38 : decode cX1_decoded 38 = .ok (.iconst 0, 1) := dk_3 (dk_at dksX1_decoded_1 16 rfl rfl)
theorem dX1_decoded_39 : decode cX1_decoded 39 = .ok (.istore 5, 2) := dk_54 5 (dk_at dksX1_decoded_1 17 rfl rfl)
theorem dX1_decoded_41 : decode cX1_decoded 41 = .ok (.iload 5, 2) := dk_21 5 (dk_at dksX1_decoded_1 19 rfl rfl)
theorem dX1_decoded_43 : decode cX1_decoded 43 = .ok (.aload_n 2, 1) := dk_44 (dk_at dksX1_decoded_1 21 rfl rfl)
theorem dX1_decoded_44 : decode cX1_decoded 44 = .ok (.getfield 162, 3) := dk_180 0 162 (dk_at dksX1_decoded_2 0 rfl rfl)
theorem dX1_decoded_47 : decode cX1_decoded 47 = .ok (.invokevirtual 54, 3) := dk_182 0 54 (dk_at dksX1_decoded_2 3 rfl rfl)
theorem dX1_decoded_50 : decode cX1_decoded 50 = .ok (.if_icmp .ge 129, 3) := dk_162 0 129 (dk_at dksX1_decoded_2 6 rfl rfl)
theorem dX1_decoded_53 : decode cX1_decoded 53 = .ok (.aload_n 2, 1) := dk_44 (dk_at dksX1_decoded_2 9 rfl rfl)
theorem dX1_decoded_54 : decode cX1_decoded 54 = .ok (.getfield 162, 3) := dk_180 0 162 (dk_at dksX1_decoded_2 10 rfl rfl)
theorem dX1_decoded_57 : decode cX1_decoded 57 = .ok (.iload 5, 2) := dk_21 5 (dk_at dksX1_decoded_2 13 rfl rfl)
theorem dX1_decoded_59 : decode cX1_decoded 59 = .ok (.invokevirtual 165, 3) := dk_182 0 165 (dk_at dksX1_decoded_2 15 rfl rfl)
theorem dX1_decoded_62 : decode cX1_decoded 62 = .ok (.checkcast 151, 3) := dk_192 0 151 (dk_at dksX1_decoded_2 18 rfl rfl)
theorem dX1_decoded_65 : decode cX1_decoded 65 = .ok (.invokevirtual 168, 3) := dk_182 0 168 (dk_at dksX1_decoded_2 21 rfl rfl)
theorem dX1_decoded_68 : decode cX1_decoded 68 = .ok (.istore 6, 2) := dk_54 6 (dk_at dksX1_decoded_3 0 rfl rfl)
theorem dX1_decoded_70 : decode cX1_decoded 70 = .ok (.iconst 0, 1) := dk_3 (dk_at dksX1_decoded_3 2 rfl rfl)
theorem dX1_decoded_71 : decode cX1_decoded 71 = .ok (.istore 7, 2) := dk_54 7 (dk_at dksX1_decoded_3 3 rfl rfl)
theorem dX1_decoded_73 : decode cX1_decoded 73 = .ok (.iload 7, 2) := dk_21 7 (dk_at dksX1_decoded_3 5 rfl rfl)
theorem dX1_decoded_75 : decode cX1_decoded 75 = .ok (.iload 6, 2) := dk_21 6 (dk_at dksX1_decoded_3 7 rfl rfl)
theorem dX1_decoded_77 : decode cX1_decoded 77 = .ok (.if_icmp .ge 18, 3) := dk_162 0 18 (dk_at dksX1_decoded_3 9 rfl rfl)
theorem dX1_decoded_80 : decode cX1_decoded 80 = .ok (.aload 4, 2) := dk_25 4 (dk_at dksX1_decoded_3 12 rfl rfl)
theorem dX1_decoded_82 : decode cX1_decoded 82 = .ok (.bipush 32, 2) := dk_16 32 (dk_at dksX1_decoded_3 14 rfl rfl)
theorem dX1_decoded_84 : decode cX1_decoded 84 = .ok (.invokevirtual 171, 3) := dk_182 0 171 (dk_at dksX1_decoded_3 16 rfl rfl)
theorem dX1_decoded_87 : decode cX1_decoded 87 = .ok (.astore 8, 2) := dk_58 8 (dk_at dksX1_decoded_3 19 rfl rfl)
theorem dX1_decoded_89 : decode cX1_decoded 89 = .ok (.iinc 7 1, 3) := dk_132 7 1 (dk_at dksX1_decoded_3 21 rfl rfl)
theorem dX1_decoded_92 : decode cX1_decoded 92 = .ok (.goto (-19), 3) := dk_167 255 237 (dk_at dksX1_decoded_4 0 rfl rfl)
theorem dX1_decoded_95 : decode cX1_decoded 95 = .ok (.iload 5, 2) := dk_21 5 (dk_at dksX1_decoded_4 3 rfl rfl)
theorem dX1_decoded_97 : decode cX1_decoded 97 = .ok (.aload_n 2, 1) := dk_44 (dk_at dksX1_decoded_4 5 rfl rfl)
theorem dX1_decoded_98 : decode cX1_decoded 98 = .ok (.getfield 175, 3) := dk_180 0 175 (dk_at dksX1_decoded_4 6 rfl rfl)
theorem dX1_decoded_101 : decode cX1_decoded 101 = .ok (.invokevirtual 54, 3) := dk_182 0 54 (dk_at dksX1_decoded_4 9 rfl rfl)
theorem dX1_decoded_104 : decode cX1_decoded 104 = .ok (.if_icmp .ge 69, 3) := dk_162 0 69 (dk_at dksX1_decoded_4 12 rfl rfl)
theorem dX1_decoded_107 : decode cX1_decoded 107 = .ok (.aload_n 2, 1) := dk_44 (dk_at dksX1_decoded_4 15 rfl rfl)
theorem dX1_decoded_108 : decode cX1_decoded 108 = .ok (.getfield 175, 3) := dk_180 0 175 (dk_at dksX1_decoded_4 16 rfl rfl)
theorem dX1_decoded_111 : decode cX1_decoded 111 = .ok (.iload 5, 2) := dk_21 5 (dk_at dksX1_decoded_4 19 rfl rfl)
theorem dX1_decoded_113 : decode cX1_decoded 113 = .ok (.invokevirtual 165, 3) := dk_182 0 165 (dk_at dksX1_decoded_4 21 rfl rfl)
theorem dX1_decoded_116 : decode cX1_decoded 116 = .ok (.checkcast 178, 3) := dk_192 0 178 (dk_at dksX1_decoded_5 0 rfl rfl)
theorem dX1_decoded_119 : decode cX1_decoded 119 = .ok (.astore 7, 2) := dk_58 7 (dk_at dksX1_decoded_5 3 rfl rfl)
theorem dX1_decoded_121 : decode cX1_decoded 121 = .ok (.aload 7, 2) := dk_25 7 (dk_at dksX1_decoded_5 5 rfl rfl)
theorem dX1_decoded_123 : decode cX1_decoded 123 = .ok (.invokevirtual 180, 3) := dk_182 0 180 (dk_at dksX1_decoded_5 7 rfl rfl)
theorem dX1_decoded_126 : decode cX1_decoded 126 = .ok (.ifCond .eq 28, 3) := dk_153 0 28 (dk_at dksX1_decoded_5 10 rfl rfl)
theorem dX1_decoded_129 : decode cX1_decoded 129 = .ok (.new 78, 3) := dk_187 0 78 (dk_at dksX1_decoded_5 13 rfl rfl)
theorem dX1_decoded_132 : decode cX1_decoded 132 = .ok (.dup, 1) := dk_89 (dk_at dksX1_decoded_5 16 rfl rfl)
theorem dX1_decoded_133 : decode cX1_decoded 133 = .ok (.aload_n 0, 1) := dk_42 (dk_at dksX1_decoded_5 17 rfl rfl)
theorem dX1_decoded_134 : decode cX1_decoded 134 = .ok (.getfield 39, 3) := dk_180 0 39 (dk_at dksX1_decoded_5 18 rfl rfl)
theorem dX1_decoded_137 : decode cX1_decoded 137 = .ok (.getfield 80, 3) := dk_180 0 80 (dk_at dksX1_decoded_5 21 rfl rfl)
theorem dX1_decoded_140 : decode cX1_decoded 140 = .ok (.aload_n 2, 1) := dk_44 (dk_at dksX1_decoded_6 0 rfl rfl)
theorem dX1_decoded_141 : decode cX1_decoded 141 = .ok (.iload 5, 2) := dk_21 5 (dk_at dksX1_decoded_6 1 rfl rfl)
theorem dX1_decoded_143 : decode cX1_decoded 143 = .ok (.invokespecial 87, 3) := dk_183 0 87 (dk_at dksX1_decoded_6 3 rfl rfl)
theorem dX1_decoded_146 : decode cX1_decoded 146 = .ok (.getfield 183, 3) := dk_180 0 183 (dk_at dksX1_decoded_6 6 rfl rfl)
theorem dX1_decoded_149 : decode cX1_decoded 149 = .ok (.iload_n 3, 1) := dk_29 (dk_at dksX1_decoded_6 9 rfl rfl)
theorem dX1_decoded_150 : decode cX1_decoded 150 = .ok (.aaload, 1) := dk_50 (dk_at dksX1_decoded_6 10 rfl rfl)
theorem dX1_decoded_151 : decode cX1_decoded 151 = .ok (.goto 8, 3) := dk_167 0 8 (dk_at dksX1_decoded_6 11 rfl rfl)
theorem dX1_decoded_154 : decode cX1_decoded 154 = .ok (.aload 7, 2) := dk_25 7 (dk_at dksX1_decoded_6 14 rfl rfl)
theorem dX1_decoded_156 : decode cX1_decoded 156 = .ok (.getfield 187, 3) := dk_180 0 187 (dk_at dksX1_decoded_6 16 rfl rfl)
theorem dX1_decoded_159 : decode cX1_decoded 159 = .ok (.astore 8, 2) := dk_58 8 (dk_at dksX1_decoded_6 19 rfl rfl)
theorem dX1_decoded_161 : decode cX1_decoded 161 = .ok (.aload 4, 2) := dk_25 4 (dk_at dksX1_decoded_6 21 rfl rfl)
theorem dX1_decoded_163 : decode cX1_decoded 163 = .ok (.aload 8, 2) := dk_25 8 (dk_at dksX1_decoded_7 0 rfl rfl)
theorem dX1_decoded_165 : decode cX1_decoded 165 = .ok (.getfield 191, 3) := dk_180 0 191 (dk_at dksX1_decoded_7 2 rfl rfl)
theorem dX1_decoded_168 : decode cX1_decoded 168 = .ok (.invokevirtual 197, 3) := dk_182 0 197 (dk_at dksX1_decoded_7 5 rfl rfl)
theorem dX1_decoded_171 : decode cX1_decoded 171 = .ok (.astore 9, 2) := dk_58 9 (dk_at dksX1_decoded_7 8 rfl rfl)
theorem dX1_decoded_173 : decode cX1_decoded 173 = .ok (.iinc 5 1, 3) := dk_132 5 1 (dk_at dksX1_decoded_7 10 rfl rfl)
theorem dX1_decoded_176 : decode cX1_decoded 176 = .ok (.goto (-135), 3) := dk_167 255 121 (dk_at dksX1_decoded_7 13 rfl rfl)
theorem dX1_decoded_179 : decode cX1_decoded 179 = .ok (.aload 4, 2) := dk_25 4 (dk_at dksX1_decoded_7 16 rfl rfl)
theorem dX1_decoded_181 : decode cX1_decoded 181 = .ok (.invokevirtual 200, 3) := dk_182 0 200 (dk_at dksX1_decoded_7 18 rfl rfl)
theorem dX1_decoded_184 : decode cX1_decoded 184 = .ok (.areturn, 1) := dk_176 (dk_at dksX1_decoded_7 21 rfl rfl)
abbrev cX1_characterOf : ByteArray := prog_1_method_5_code
def yX1_characterOf : MethodName := ⟨RX1, "characterOf", "(Ljava/lang/String;I)I"⟩
def dkwX1_characterOf_0 : List UInt8 := [27, 2, 160, 0, 8, 42, 182, 0, 19, 172, 27, 42, 182, 0, 19, 184, 0, 25, 42, 27, 182, 0, 29, 172]
abbrev dktX1_characterOf_0 : List UInt8 := dkwX1_characterOf_0 ++ []
theorem dksX1_characterOf_0 : cX1_characterOf.data.toList.drop 0 = dktX1_characterOf_0 := by decide +kernel
theorem dX1_characterOf_0 : decode cX1_characterOf 0 = .ok (.iload_n 1, 1) := dk_27 (dk_at dksX1_characterOf_0 0 rfl rfl)
theorem dX1_characterOf_1 : decode cX1_characterOf 1 = .ok (.iconst (-1), 1) := dk_2 (dk_at dksX1_characterOf_0 1 rfl rfl)
theorem dX1_characterOf_2 : decode cX1_characterOf 2 = .ok (.if_icmp .ne 8, 3) := dk_160 0 8 (dk_at dksX1_characterOf_0 2 rfl rfl)
theorem dX1_characterOf_5 : decode cX1_characterOf 5 = .ok (.aload_n 0, 1) := dk_42 (dk_at dksX1_characterOf_0 5 rfl rfl)
theorem dX1_characterOf_6 : decode cX1_characterOf 6 = .ok (.invokevirtual 19, 3) := dk_182 0 19 (dk_at dksX1_characterOf_0 6 rfl rfl)
theorem dX1_characterOf_9 : decode cX1_characterOf 9 = .ok (.ireturn, 1) := dk_172 (dk_at dksX1_characterOf_0 9 rfl rfl)
theorem dX1_characterOf_10 : decode cX1_characterOf 10 = .ok (.iload_n 1, 1) := dk_27 (dk_at dksX1_characterOf_0 10 rfl rfl)
theorem dX1_characterOf_11 : decode cX1_characterOf 11 = .ok (.aload_n 0, 1) := dk_42 (dk_at dksX1_characterOf_0 11 rfl rfl)
theorem dX1_characterOf_12 : decode cX1_characterOf 12 = .ok (.invokevirtual 19, 3) := dk_182 0 19 (dk_at dksX1_characterOf_0 12 rfl rfl)
theorem dX1_characterOf_15 : decode cX1_characterOf 15 = .ok (.invokestatic 25, 3) := dk_184 0 25 (dk_at dksX1_characterOf_0 15 rfl rfl)
theorem dX1_characterOf_18 : decode cX1_characterOf 18 = .ok (.aload_n 0, 1) := dk_42 (dk_at dksX1_characterOf_0 18 rfl rfl)
theorem dX1_characterOf_19 : decode cX1_characterOf 19 = .ok (.iload_n 1, 1) := dk_27 (dk_at dksX1_characterOf_0 19 rfl rfl)
theorem dX1_characterOf_20 : decode cX1_characterOf 20 = .ok (.invokevirtual 29, 3) := dk_182 0 29 (dk_at dksX1_characterOf_0 20 rfl rfl)
theorem dX1_characterOf_23 : decode cX1_characterOf 23 = .ok (.ireturn, 1) := dk_172 (dk_at dksX1_characterOf_0 23 rfl rfl)
abbrev cX1_place : ByteArray := prog_1_method_18_code
def yX1_place : MethodName := ⟨RX1, "place", "(II)I"⟩
def dkwX1_place_4 : List UInt8 := [180, 0, 65, 29, 50, 42, 180, 0, 39, 180, 0, 80, 27, 182, 0, 165, 192, 0, 108, 182, 0, 218, 172]
abbrev dktX1_place_4 : List UInt8 := dkwX1_place_4 ++ []
def dkwX1_place_3 : List UInt8 := [180, 0, 39, 180, 0, 80, 27, 182, 0, 165, 192, 0, 108, 180, 0, 216, 182, 0, 54, 172, 42, 180, 0, 39]
abbrev dktX1_place_3 : List UInt8 := dkwX1_place_3 ++ dktX1_place_4
def dkwX1_place_2 : List UInt8 := [29, 172, 42, 180, 0, 39, 180, 0, 65, 29, 50, 180, 0, 147, 27, 184, 0, 150, 182, 0, 155, 172, 42]
abbrev dktX1_place_2 : List UInt8 := dkwX1_place_2 ++ dktX1_place_3
def dkwX1_place_1 : List UInt8 := [170, 0, 0, 0, 0, 0, 0, 71, 0, 0, 0, 0, 0, 0, 0, 2, 0, 0, 0, 28, 0, 0, 0, 30, 0, 0, 0, 50]
abbrev dktX1_place_1 : List UInt8 := dkwX1_place_1 ++ dktX1_place_2
def dkwX1_place_0 : List UInt8 := [42, 27, 182, 0, 204, 28, 3, 6, 184, 0, 10, 184, 0, 102, 42, 180, 0, 39, 27, 182, 0, 144, 62, 28]
abbrev dktX1_place_0 : List UInt8 := dkwX1_place_0 ++ dktX1_place_1
theorem dksX1_place_0 : cX1_place.data.toList.drop 0 = dktX1_place_0 := by decide +kernel
theorem dksX1_place_1 : cX1_place.data.toList.drop 24 = dktX1_place_1 := dk_seg dksX1_place_0 24 rfl rfl
theorem dksX1_place_2 : cX1_place.data.toList.drop 52 = dktX1_place_2 := dk_seg dksX1_place_1 28 rfl rfl
theorem dksX1_place_3 : cX1_place.data.toList.drop 75 = dktX1_place_3 := dk_seg dksX1_place_2 23 rfl rfl
theorem dksX1_place_4 : cX1_place.data.toList.drop 99 = dktX1_place_4 := dk_seg dksX1_place_3 24 rfl rfl
theorem dX1_place_0 : decode cX1_place 0 = .ok (.aload_n 0, 1) := dk_42 (dk_at dksX1_place_0 0 rfl rfl)
theorem dX1_place_1 : decode cX1_place 1 = .ok (.iload_n 1, 1) := dk_27 (dk_at dksX1_place_0 1 rfl rfl)
theorem dX1_place_2 : decode cX1_place 2 = .ok (.invokevirtual 204, 3) := dk_182 0 204 (dk_at dksX1_place_0 2 rfl rfl)
theorem dX1_place_5 : decode cX1_place 5 = .ok (.iload_n 2, 1) := dk_28 (dk_at dksX1_place_0 5 rfl rfl)
theorem dX1_place_6 : decode cX1_place 6 = .ok (.iconst 0, 1) := dk_3 (dk_at dksX1_place_0 6 rfl rfl)
theorem dX1_place_7 : decode cX1_place 7 = .ok (.iconst 3, 1) := dk_6 (dk_at dksX1_place_0 7 rfl rfl)
theorem dX1_place_8 : decode cX1_place 8 = .ok (.invokestatic 10, 3) := dk_184 0 10 (dk_at dksX1_place_0 8 rfl rfl)
theorem dX1_place_11 : decode cX1_place 11 = .ok (.invokestatic 102, 3) := dk_184 0 102 (dk_at dksX1_place_0 11 rfl rfl)
theorem dX1_place_14 : decode cX1_place 14 = .ok (.aload_n 0, 1) := dk_42 (dk_at dksX1_place_0 14 rfl rfl)
theorem dX1_place_15 : decode cX1_place 15 = .ok (.getfield 39, 3) := dk_180 0 39 (dk_at dksX1_place_0 15 rfl rfl)
theorem dX1_place_18 : decode cX1_place 18 = .ok (.iload_n 1, 1) := dk_27 (dk_at dksX1_place_0 18 rfl rfl)
theorem dX1_place_19 : decode cX1_place 19 = .ok (.invokevirtual 144, 3) := dk_182 0 144 (dk_at dksX1_place_0 19 rfl rfl)
theorem dX1_place_22 : decode cX1_place 22 = .ok (.istore_n 3, 1) := dk_62 (dk_at dksX1_place_0 22 rfl rfl)
theorem dX1_place_23 : decode cX1_place 23 = .ok (.iload_n 2, 1) := dk_28 (dk_at dksX1_place_0 23 rfl rfl)
theorem dX1_place_24 : decode cX1_place 24 = .ok (.tableswitch 71 0 2 #[28, 30, 50], 28) := by decide +kernel
theorem dX1_place_52 : decode cX1_place 52 = .ok (.iload_n 3, 1) := dk_29 (dk_at dksX1_place_2 0 rfl rfl)
theorem dX1_place_53 : decode cX1_place 53 = .ok (.ireturn, 1) := dk_172 (dk_at dksX1_place_2 1 rfl rfl)
theorem dX1_place_54 : decode cX1_place 54 = .ok (.aload_n 0, 1) := dk_42 (dk_at dksX1_place_2 2 rfl rfl)
theorem dX1_place_55 : decode cX1_place 55 = .ok (.getfield 39, 3) := dk_180 0 39 (dk_at dksX1_place_2 3 rfl rfl)
theorem dX1_place_58 : decode cX1_place 58 = .ok (.getfield 65, 3) := dk_180 0 65 (dk_at dksX1_place_2 6 rfl rfl)
theorem dX1_place_61 : decode cX1_place 61 = .ok (.iload_n 3, 1) := dk_29 (dk_at dksX1_place_2 9 rfl rfl)
theorem dX1_place_62 : decode cX1_place 62 = .ok (.aaload, 1) := dk_50 (dk_at dksX1_place_2 10 rfl rfl)
theorem dX1_place_63 : decode cX1_place 63 = .ok (.getfield 147, 3) := dk_180 0 147 (dk_at dksX1_place_2 11 rfl rfl)
theorem dX1_place_66 : decode cX1_place 66 = .ok (.iload_n 1, 1) := dk_27 (dk_at dksX1_place_2 14 rfl rfl)
theorem dX1_place_67 : decode cX1_place 67 = .ok (.invokestatic 150, 3) := dk_184 0 150 (dk_at dksX1_place_2 15 rfl rfl)
theorem dX1_place_70 : decode cX1_place 70 = .ok (.invokevirtual 155, 3) := dk_182 0 155 (dk_at dksX1_place_2 18 rfl rfl)
theorem dX1_place_73 : decode cX1_place 73 = .ok (.ireturn, 1) := dk_172 (dk_at dksX1_place_2 21 rfl rfl)
theorem dX1_place_74 : decode cX1_place 74 = .ok (.aload_n 0, 1) := dk_42 (dk_at dksX1_place_2 22 rfl rfl)
theorem dX1_place_75 : decode cX1_place 75 = .ok (.getfield 39, 3) := dk_180 0 39 (dk_at dksX1_place_3 0 rfl rfl)
theorem dX1_place_78 : decode cX1_place 78 = .ok (.getfield 80, 3) := dk_180 0 80 (dk_at dksX1_place_3 3 rfl rfl)
theorem dX1_place_81 : decode cX1_place 81 = .ok (.iload_n 1, 1) := dk_27 (dk_at dksX1_place_3 6 rfl rfl)
theorem dX1_place_82 : decode cX1_place 82 = .ok (.invokevirtual 165, 3) := dk_182 0 165 (dk_at dksX1_place_3 7 rfl rfl)
theorem dX1_place_85 : decode cX1_place 85 = .ok (.checkcast 108, 3) := dk_192 0 108 (dk_at dksX1_place_3 10 rfl rfl)
theorem dX1_place_88 : decode cX1_place 88 = .ok (.getfield 216, 3) := dk_180 0 216 (dk_at dksX1_place_3 13 rfl rfl)
theorem dX1_place_91 : decode cX1_place 91 = .ok (.invokevirtual 54, 3) := dk_182 0 54 (dk_at dksX1_place_3 16 rfl rfl)
theorem dX1_place_94 : decode cX1_place 94 = .ok (.ireturn, 1) := dk_172 (dk_at dksX1_place_3 19 rfl rfl)
theorem dX1_place_95 : decode cX1_place 95 = .ok (.aload_n 0, 1) := dk_42 (dk_at dksX1_place_3 20 rfl rfl)
theorem dX1_place_96 : decode cX1_place 96 = .ok (.getfield 39, 3) := dk_180 0 39 (dk_at dksX1_place_3 21 rfl rfl)
theorem dX1_place_99 : decode cX1_place 99 = .ok (.getfield 65, 3) := dk_180 0 65 (dk_at dksX1_place_4 0 rfl rfl)
theorem dX1_place_102 : decode cX1_place 102 = .ok (.iload_n 3, 1) := dk_29 (dk_at dksX1_place_4 3 rfl rfl)
theorem dX1_place_103 : decode cX1_place 103 = .ok (.aaload, 1) := dk_50 (dk_at dksX1_place_4 4 rfl rfl)
theorem dX1_place_104 : decode cX1_place 104 = .ok (.aload_n 0, 1) := dk_42 (dk_at dksX1_place_4 5 rfl rfl)
theorem dX1_place_105 : decode cX1_place 105 = .ok (.getfield 39, 3) := dk_180 0 39 (dk_at dksX1_place_4 6 rfl rfl)
theorem dX1_place_108 : decode cX1_place 108 = .ok (.getfield 80, 3) := dk_180 0 80 (dk_at dksX1_place_4 9 rfl rfl)
theorem dX1_place_111 : decode cX1_place 111 = .ok (.iload_n 1, 1) := dk_27 (dk_at dksX1_place_4 12 rfl rfl)
theorem dX1_place_112 : decode cX1_place 112 = .ok (.invokevirtual 165, 3) := dk_182 0 165 (dk_at dksX1_place_4 13 rfl rfl)
theorem dX1_place_115 : decode cX1_place 115 = .ok (.checkcast 108, 3) := dk_192 0 108 (dk_at dksX1_place_4 16 rfl rfl)
theorem dX1_place_118 : decode cX1_place 118 = .ok (.invokevirtual 218, 3) := dk_182 0 218 (dk_at dksX1_place_4 19 rfl rfl)
theorem dX1_place_121 : decode cX1_place 121 = .ok (.ireturn, 1) := dk_172 (dk_at dksX1_place_4 22 rfl rfl)
abbrev cX1_cut : ByteArray := prog_1_method_19_code
def yX1_cut : MethodName := ⟨RX1, "cut", "(I)I"⟩
def dkwX1_cut_1 : List UInt8 := [44, 182, 0, 120, 29, 172]
abbrev dktX1_cut_1 : List UInt8 := dkwX1_cut_1 ++ []
def dkwX1_cut_0 : List UInt8 := [42, 27, 182, 0, 204, 187, 0, 36, 89, 42, 180, 0, 39, 183, 0, 105, 77, 44, 27, 182, 0, 221, 62, 42]
abbrev dktX1_cut_0 : List UInt8 := dkwX1_cut_0 ++ dktX1_cut_1
theorem dksX1_cut_0 : cX1_cut.data.toList.drop 0 = dktX1_cut_0 := by decide +kernel
theorem dksX1_cut_1 : cX1_cut.data.toList.drop 24 = dktX1_cut_1 := dk_seg dksX1_cut_0 24 rfl rfl
theorem dX1_cut_0 : decode cX1_cut 0 = .ok (.aload_n 0, 1) := dk_42 (dk_at dksX1_cut_0 0 rfl rfl)
theorem dX1_cut_1 : decode cX1_cut 1 = .ok (.iload_n 1, 1) := dk_27 (dk_at dksX1_cut_0 1 rfl rfl)
theorem dX1_cut_2 : decode cX1_cut 2 = .ok (.invokevirtual 204, 3) := dk_182 0 204 (dk_at dksX1_cut_0 2 rfl rfl)
theorem dX1_cut_5 : decode cX1_cut 5 = .ok (.new 36, 3) := dk_187 0 36 (dk_at dksX1_cut_0 5 rfl rfl)
theorem dX1_cut_8 : decode cX1_cut 8 = .ok (.dup, 1) := dk_89 (dk_at dksX1_cut_0 8 rfl rfl)
theorem dX1_cut_9 : decode cX1_cut 9 = .ok (.aload_n 0, 1) := dk_42 (dk_at dksX1_cut_0 9 rfl rfl)
theorem dX1_cut_10 : decode cX1_cut 10 = .ok (.getfield 39, 3) := dk_180 0 39 (dk_at dksX1_cut_0 10 rfl rfl)
theorem dX1_cut_13 : decode cX1_cut 13 = .ok (.invokespecial 105, 3) := dk_183 0 105 (dk_at dksX1_cut_0 13 rfl rfl)
theorem dX1_cut_16 : decode cX1_cut 16 = .ok (.astore_n 2, 1) := dk_77 (dk_at dksX1_cut_0 16 rfl rfl)
theorem dX1_cut_17 : decode cX1_cut 17 = .ok (.aload_n 2, 1) := dk_44 (dk_at dksX1_cut_0 17 rfl rfl)
theorem dX1_cut_18 : decode cX1_cut 18 = .ok (.iload_n 1, 1) := dk_27 (dk_at dksX1_cut_0 18 rfl rfl)
theorem dX1_cut_19 : decode cX1_cut 19 = .ok (.invokevirtual 221, 3) := dk_182 0 221 (dk_at dksX1_cut_0 19 rfl rfl)
theorem dX1_cut_22 : decode cX1_cut 22 = .ok (.istore_n 3, 1) := dk_62 (dk_at dksX1_cut_0 22 rfl rfl)
theorem dX1_cut_23 : decode cX1_cut 23 = .ok (.aload_n 0, 1) := dk_42 (dk_at dksX1_cut_0 23 rfl rfl)
theorem dX1_cut_24 : decode cX1_cut 24 = .ok (.aload_n 2, 1) := dk_44 (dk_at dksX1_cut_1 0 rfl rfl)
theorem dX1_cut_25 : decode cX1_cut 25 = .ok (.invokevirtual 120, 3) := dk_182 0 120 (dk_at dksX1_cut_1 1 rfl rfl)
theorem dX1_cut_28 : decode cX1_cut 28 = .ok (.iload_n 3, 1) := dk_29 (dk_at dksX1_cut_1 4 rfl rfl)
theorem dX1_cut_29 : decode cX1_cut 29 = .ok (.ireturn, 1) := dk_172 (dk_at dksX1_cut_1 5 rfl rfl)
abbrev cX1_setThreshold : ByteArray := prog_1_method_20_code
def yX1_setThreshold : MethodName := ⟨RX1, "setThreshold", "(I)I"⟩
def dkwX1_setThreshold_1 : List UInt8 := [180, 0, 224, 62, 44, 27, 181, 0, 224, 42, 44, 182, 0, 120, 29, 172]
abbrev dktX1_setThreshold_1 : List UInt8 := dkwX1_setThreshold_1 ++ []
def dkwX1_setThreshold_0 : List UInt8 := [27, 3, 16, 100, 184, 0, 10, 184, 0, 102, 187, 0, 36, 89, 42, 180, 0, 39, 183, 0, 105, 77, 44]
abbrev dktX1_setThreshold_0 : List UInt8 := dkwX1_setThreshold_0 ++ dktX1_setThreshold_1
theorem dksX1_setThreshold_0 : cX1_setThreshold.data.toList.drop 0 = dktX1_setThreshold_0 := by decide +kernel
theorem dksX1_setThreshold_1 : cX1_setThreshold.data.toList.drop 23 = dktX1_setThreshold_1 := dk_seg dksX1_setThreshold_0 23 rfl rfl
theorem dX1_setThreshold_0 : decode cX1_setThreshold 0 = .ok (.iload_n 1, 1) := dk_27 (dk_at dksX1_setThreshold_0 0 rfl rfl)
theorem dX1_setThreshold_1 : decode cX1_setThreshold 1 = .ok (.iconst 0, 1) := dk_3 (dk_at dksX1_setThreshold_0 1 rfl rfl)
theorem dX1_setThreshold_2 : decode cX1_setThreshold 2 = .ok (.bipush 100, 2) := dk_16 100 (dk_at dksX1_setThreshold_0 2 rfl rfl)
theorem dX1_setThreshold_4 : decode cX1_setThreshold 4 = .ok (.invokestatic 10, 3) := dk_184 0 10 (dk_at dksX1_setThreshold_0 4 rfl rfl)
theorem dX1_setThreshold_7 : decode cX1_setThreshold 7 = .ok (.invokestatic 102, 3) := dk_184 0 102 (dk_at dksX1_setThreshold_0 7 rfl rfl)
theorem dX1_setThreshold_10 : decode cX1_setThreshold 10 = .ok (.new 36, 3) := dk_187 0 36 (dk_at dksX1_setThreshold_0 10 rfl rfl)
theorem dX1_setThreshold_13 : decode cX1_setThreshold 13 = .ok (.dup, 1) := dk_89 (dk_at dksX1_setThreshold_0 13 rfl rfl)
theorem dX1_setThreshold_14 : decode cX1_setThreshold 14 = .ok (.aload_n 0, 1) := dk_42 (dk_at dksX1_setThreshold_0 14 rfl rfl)
theorem dX1_setThreshold_15 : decode cX1_setThreshold 15 = .ok (.getfield 39, 3) := dk_180 0 39 (dk_at dksX1_setThreshold_0 15 rfl rfl)
theorem dX1_setThreshold_18 : decode cX1_setThreshold 18 = .ok (.invokespecial 105, 3) := dk_183 0 105 (dk_at dksX1_setThreshold_0 18 rfl rfl)
theorem dX1_setThreshold_21 : decode cX1_setThreshold 21 = .ok (.astore_n 2, 1) := dk_77 (dk_at dksX1_setThreshold_0 21 rfl rfl)
theorem dX1_setThreshold_22 : decode cX1_setThreshold 22 = .ok (.aload_n 2, 1) := dk_44 (dk_at dksX1_setThreshold_0 22 rfl rfl)
theorem dX1_setThreshold_23 : decode cX1_setThreshold 23 = .ok (.getfield 224, 3) := dk_180 0 224 (dk_at dksX1_setThreshold_1 0 rfl rfl)
theorem dX1_setThreshold_26 : decode cX1_setThreshold 26 = .ok (.istore_n 3, 1) := dk_62 (dk_at dksX1_setThreshold_1 3 rfl rfl)
theorem dX1_setThreshold_27 : decode cX1_setThreshold 27 = .ok (.aload_n 2, 1) := dk_44 (dk_at dksX1_setThreshold_1 4 rfl rfl)
theorem dX1_setThreshold_28 : decode cX1_setThreshold 28 = .ok (.iload_n 1, 1) := dk_27 (dk_at dksX1_setThreshold_1 5 rfl rfl)
theorem dX1_setThreshold_29 : decode cX1_setThreshold 29 = .ok (.putfield 224, 3) := dk_181 0 224 (dk_at dksX1_setThreshold_1 6 rfl rfl)
theorem dX1_setThreshold_32 : decode cX1_setThreshold 32 = .ok (.aload_n 0, 1) := dk_42 (dk_at dksX1_setThreshold_1 9 rfl rfl)
theorem dX1_setThreshold_33 : decode cX1_setThreshold 33 = .ok (.aload_n 2, 1) := dk_44 (dk_at dksX1_setThreshold_1 10 rfl rfl)
theorem dX1_setThreshold_34 : decode cX1_setThreshold 34 = .ok (.invokevirtual 120, 3) := dk_182 0 120 (dk_at dksX1_setThreshold_1 11 rfl rfl)
theorem dX1_setThreshold_37 : decode cX1_setThreshold 37 = .ok (.iload_n 3, 1) := dk_29 (dk_at dksX1_setThreshold_1 14 rfl rfl)
theorem dX1_setThreshold_38 : decode cX1_setThreshold 38 = .ok (.ireturn, 1) := dk_172 (dk_at dksX1_setThreshold_1 15 rfl rfl)
abbrev cX1_template : ByteArray := prog_1_method_22_code
def yX1_template : MethodName := ⟨RX1, "template", "(II)I"⟩
def dkwX1_template_3 : List UInt8 := [182, 0, 227, 172, 45, 182, 0, 228, 172]
abbrev dktX1_template_3 : List UInt8 := dkwX1_template_3 ++ []
def dkwX1_template_2 : List UInt8 := [45, 180, 0, 175, 182, 0, 54, 172, 45, 182, 0, 73, 172, 45, 180, 0, 147, 182, 0, 54, 172, 45]
abbrev dktX1_template_2 : List UInt8 := dkwX1_template_2 ++ dktX1_template_3
def dkwX1_template_1 : List UInt8 := [170, 0, 0, 0, 0, 0, 0, 58, 0, 0, 0, 0, 0, 0, 0, 3, 0, 0, 0, 32, 0, 0, 0, 40, 0, 0, 0, 45, 0, 0, 0, 53]
abbrev dktX1_template_1 : List UInt8 := dkwX1_template_1 ++ dktX1_template_2
def dkwX1_template_0 : List UInt8 := [42, 27, 182, 0, 69, 78, 28, 3, 7, 184, 0, 10, 184, 0, 102, 28]
abbrev dktX1_template_0 : List UInt8 := dkwX1_template_0 ++ dktX1_template_1
theorem dksX1_template_0 : cX1_template.data.toList.drop 0 = dktX1_template_0 := by decide +kernel
theorem dksX1_template_1 : cX1_template.data.toList.drop 16 = dktX1_template_1 := dk_seg dksX1_template_0 16 rfl rfl
theorem dksX1_template_2 : cX1_template.data.toList.drop 48 = dktX1_template_2 := dk_seg dksX1_template_1 32 rfl rfl
theorem dksX1_template_3 : cX1_template.data.toList.drop 70 = dktX1_template_3 := dk_seg dksX1_template_2 22 rfl rfl
theorem dX1_template_0 : decode cX1_template 0 = .ok (.aload_n 0, 1) := dk_42 (dk_at dksX1_template_0 0 rfl rfl)
theorem dX1_template_1 : decode cX1_template 1 = .ok (.iload_n 1, 1) := dk_27 (dk_at dksX1_template_0 1 rfl rfl)
theorem dX1_template_2 : decode cX1_template 2 = .ok (.invokevirtual 69, 3) := dk_182 0 69 (dk_at dksX1_template_0 2 rfl rfl)
theorem dX1_template_5 : decode cX1_template 5 = .ok (.astore_n 3, 1) := dk_78 (dk_at dksX1_template_0 5 rfl rfl)
theorem dX1_template_6 : decode cX1_template 6 = .ok (.iload_n 2, 1) := dk_28 (dk_at dksX1_template_0 6 rfl rfl)
theorem dX1_template_7 : decode cX1_template 7 = .ok (.iconst 0, 1) := dk_3 (dk_at dksX1_template_0 7 rfl rfl)
theorem dX1_template_8 : decode cX1_template 8 = .ok (.iconst 4, 1) := dk_7 (dk_at dksX1_template_0 8 rfl rfl)
theorem dX1_template_9 : decode cX1_template 9 = .ok (.invokestatic 10, 3) := dk_184 0 10 (dk_at dksX1_template_0 9 rfl rfl)
theorem dX1_template_12 : decode cX1_template 12 = .ok (.invokestatic 102, 3) := dk_184 0 102 (dk_at dksX1_template_0 12 rfl rfl)
theorem dX1_template_15 : decode cX1_template 15 = .ok (.iload_n 2, 1) := dk_28 (dk_at dksX1_template_0 15 rfl rfl)
theorem dX1_template_16 : decode cX1_template 16 = .ok (.tableswitch 58 0 3 #[32, 40, 45, 53], 32) := by decide +kernel
theorem dX1_template_48 : decode cX1_template 48 = .ok (.aload_n 3, 1) := dk_45 (dk_at dksX1_template_2 0 rfl rfl)
theorem dX1_template_49 : decode cX1_template 49 = .ok (.getfield 175, 3) := dk_180 0 175 (dk_at dksX1_template_2 1 rfl rfl)
theorem dX1_template_52 : decode cX1_template 52 = .ok (.invokevirtual 54, 3) := dk_182 0 54 (dk_at dksX1_template_2 4 rfl rfl)
theorem dX1_template_55 : decode cX1_template 55 = .ok (.ireturn, 1) := dk_172 (dk_at dksX1_template_2 7 rfl rfl)
theorem dX1_template_56 : decode cX1_template 56 = .ok (.aload_n 3, 1) := dk_45 (dk_at dksX1_template_2 8 rfl rfl)
theorem dX1_template_57 : decode cX1_template 57 = .ok (.invokevirtual 73, 3) := dk_182 0 73 (dk_at dksX1_template_2 9 rfl rfl)
theorem dX1_template_60 : decode cX1_template 60 = .ok (.ireturn, 1) := dk_172 (dk_at dksX1_template_2 12 rfl rfl)
theorem dX1_template_61 : decode cX1_template 61 = .ok (.aload_n 3, 1) := dk_45 (dk_at dksX1_template_2 13 rfl rfl)
theorem dX1_template_62 : decode cX1_template 62 = .ok (.getfield 147, 3) := dk_180 0 147 (dk_at dksX1_template_2 14 rfl rfl)
theorem dX1_template_65 : decode cX1_template 65 = .ok (.invokevirtual 54, 3) := dk_182 0 54 (dk_at dksX1_template_2 17 rfl rfl)
theorem dX1_template_68 : decode cX1_template 68 = .ok (.ireturn, 1) := dk_172 (dk_at dksX1_template_2 20 rfl rfl)
theorem dX1_template_69 : decode cX1_template 69 = .ok (.aload_n 3, 1) := dk_45 (dk_at dksX1_template_2 21 rfl rfl)
theorem dX1_template_70 : decode cX1_template 70 = .ok (.invokevirtual 227, 3) := dk_182 0 227 (dk_at dksX1_template_3 0 rfl rfl)
theorem dX1_template_73 : decode cX1_template 73 = .ok (.ireturn, 1) := dk_172 (dk_at dksX1_template_3 3 rfl rfl)
theorem dX1_template_74 : decode cX1_template 74 = .ok (.aload_n 3, 1) := dk_45 (dk_at dksX1_template_3 4 rfl rfl)
theorem dX1_template_75 : decode cX1_template 75 = .ok (.invokevirtual 228, 3) := dk_182 0 228 (dk_at dksX1_template_3 5 rfl rfl)
theorem dX1_template_78 : decode cX1_template 78 = .ok (.ireturn, 1) := dk_172 (dk_at dksX1_template_3 8 rfl rfl)
abbrev cX1_at : ByteArray := prog_1_method_8_code
def yX1_at : MethodName := ⟨RX1, "at", "(I)LLogCompactor$Template;"⟩
def dkwX1_at_1 : List UInt8 := [183, 0, 18, 191, 42, 180, 0, 39, 180, 0, 65, 27, 50, 176]
abbrev dktX1_at_1 : List UInt8 := dkwX1_at_1 ++ []
def dkwX1_at_0 : List UInt8 := [27, 16, 12, 184, 0, 25, 42, 180, 0, 39, 180, 0, 65, 27, 50, 199, 0, 11, 187, 0, 16, 89]
abbrev dktX1_at_0 : List UInt8 := dkwX1_at_0 ++ dktX1_at_1
theorem dksX1_at_0 : cX1_at.data.toList.drop 0 = dktX1_at_0 := by decide +kernel
theorem dksX1_at_1 : cX1_at.data.toList.drop 22 = dktX1_at_1 := dk_seg dksX1_at_0 22 rfl rfl
theorem dX1_at_0 : decode cX1_at 0 = .ok (.iload_n 1, 1) := dk_27 (dk_at dksX1_at_0 0 rfl rfl)
theorem dX1_at_1 : decode cX1_at 1 = .ok (.bipush 12, 2) := dk_16 12 (dk_at dksX1_at_0 1 rfl rfl)
theorem dX1_at_3 : decode cX1_at 3 = .ok (.invokestatic 25, 3) := dk_184 0 25 (dk_at dksX1_at_0 3 rfl rfl)
theorem dX1_at_6 : decode cX1_at 6 = .ok (.aload_n 0, 1) := dk_42 (dk_at dksX1_at_0 6 rfl rfl)
theorem dX1_at_7 : decode cX1_at 7 = .ok (.getfield 39, 3) := dk_180 0 39 (dk_at dksX1_at_0 7 rfl rfl)
theorem dX1_at_10 : decode cX1_at 10 = .ok (.getfield 65, 3) := dk_180 0 65 (dk_at dksX1_at_0 10 rfl rfl)
theorem dX1_at_13 : decode cX1_at 13 = .ok (.iload_n 1, 1) := dk_27 (dk_at dksX1_at_0 13 rfl rfl)
theorem dX1_at_14 : decode cX1_at 14 = .ok (.aaload, 1) := dk_50 (dk_at dksX1_at_0 14 rfl rfl)
theorem dX1_at_15 : decode cX1_at 15 = .ok (.ifnonnull 11, 3) := dk_199 0 11 (dk_at dksX1_at_0 15 rfl rfl)
theorem dX1_at_18 : decode cX1_at 18 = .ok (.new 16, 3) := dk_187 0 16 (dk_at dksX1_at_0 18 rfl rfl)
theorem dX1_at_21 : decode cX1_at 21 = .ok (.dup, 1) := dk_89 (dk_at dksX1_at_0 21 rfl rfl)
theorem dX1_at_22 : decode cX1_at 22 = .ok (.invokespecial 18, 3) := dk_183 0 18 (dk_at dksX1_at_1 0 rfl rfl)
theorem dX1_at_25 : decode cX1_at 25 = .ok (.athrow, 1) := dk_191 (dk_at dksX1_at_1 3 rfl rfl)
theorem dX1_at_26 : decode cX1_at 26 = .ok (.aload_n 0, 1) := dk_42 (dk_at dksX1_at_1 4 rfl rfl)
theorem dX1_at_27 : decode cX1_at 27 = .ok (.getfield 39, 3) := dk_180 0 39 (dk_at dksX1_at_1 5 rfl rfl)
theorem dX1_at_30 : decode cX1_at 30 = .ok (.getfield 65, 3) := dk_180 0 65 (dk_at dksX1_at_1 8 rfl rfl)
theorem dX1_at_33 : decode cX1_at 33 = .ok (.iload_n 1, 1) := dk_27 (dk_at dksX1_at_1 11 rfl rfl)
theorem dX1_at_34 : decode cX1_at 34 = .ok (.aaload, 1) := dk_50 (dk_at dksX1_at_1 12 rfl rfl)
theorem dX1_at_35 : decode cX1_at 35 = .ok (.areturn, 1) := dk_176 (dk_at dksX1_at_1 13 rfl rfl)
abbrev cX1_slot : ByteArray := prog_1_method_23_code
def yX1_slot : MethodName := ⟨RX1, "slot", "(II)I"⟩
def dkwX1_slot_2 : List UInt8 := [2, 172]
abbrev dktX1_slot_2 : List UInt8 := dkwX1_slot_2 ++ []
def dkwX1_slot_1 : List UInt8 := [182, 0, 165, 192, 0, 178, 58, 4, 25, 4, 182, 0, 180, 153, 0, 11, 25, 4, 180, 0, 231, 167, 0, 4]
abbrev dktX1_slot_1 : List UInt8 := dkwX1_slot_1 ++ dktX1_slot_2
def dkwX1_slot_0 : List UInt8 := [42, 27, 182, 0, 69, 78, 28, 45, 180, 0, 175, 182, 0, 54, 184, 0, 25, 45, 180, 0, 175, 28]
abbrev dktX1_slot_0 : List UInt8 := dkwX1_slot_0 ++ dktX1_slot_1
theorem dksX1_slot_0 : cX1_slot.data.toList.drop 0 = dktX1_slot_0 := by decide +kernel
theorem dksX1_slot_1 : cX1_slot.data.toList.drop 22 = dktX1_slot_1 := dk_seg dksX1_slot_0 22 rfl rfl
theorem dksX1_slot_2 : cX1_slot.data.toList.drop 46 = dktX1_slot_2 := dk_seg dksX1_slot_1 24 rfl rfl
theorem dX1_slot_0 : decode cX1_slot 0 = .ok (.aload_n 0, 1) := dk_42 (dk_at dksX1_slot_0 0 rfl rfl)
theorem dX1_slot_1 : decode cX1_slot 1 = .ok (.iload_n 1, 1) := dk_27 (dk_at dksX1_slot_0 1 rfl rfl)
theorem dX1_slot_2 : decode cX1_slot 2 = .ok (.invokevirtual 69, 3) := dk_182 0 69 (dk_at dksX1_slot_0 2 rfl rfl)
theorem dX1_slot_5 : decode cX1_slot 5 = .ok (.astore_n 3, 1) := dk_78 (dk_at dksX1_slot_0 5 rfl rfl)
theorem dX1_slot_6 : decode cX1_slot 6 = .ok (.iload_n 2, 1) := dk_28 (dk_at dksX1_slot_0 6 rfl rfl)
theorem dX1_slot_7 : decode cX1_slot 7 = .ok (.aload_n 3, 1) := dk_45 (dk_at dksX1_slot_0 7 rfl rfl)
theorem dX1_slot_8 : decode cX1_slot 8 = .ok (.getfield 175, 3) := dk_180 0 175 (dk_at dksX1_slot_0 8 rfl rfl)
theorem dX1_slot_11 : decode cX1_slot 11 = .ok (.invokevirtual 54, 3) := dk_182 0 54 (dk_at dksX1_slot_0 11 rfl rfl)
theorem dX1_slot_14 : decode cX1_slot 14 = .ok (.invokestatic 25, 3) := dk_184 0 25 (dk_at dksX1_slot_0 14 rfl rfl)
theorem dX1_slot_17 : decode cX1_slot 17 = .ok (.aload_n 3, 1) := dk_45 (dk_at dksX1_slot_0 17 rfl rfl)
theorem dX1_slot_18 : decode cX1_slot 18 = .ok (.getfield 175, 3) := dk_180 0 175 (dk_at dksX1_slot_0 18 rfl rfl)
theorem dX1_slot_21 : decode cX1_slot 21 = .ok (.iload_n 2, 1) := dk_28 (dk_at dksX1_slot_0 21 rfl rfl)
theorem dX1_slot_22 : decode cX1_slot 22 = .ok (.invokevirtual 165, 3) := dk_182 0 165 (dk_at dksX1_slot_1 0 rfl rfl)
theorem dX1_slot_25 : decode cX1_slot 25 = .ok (.checkcast 178, 3) := dk_192 0 178 (dk_at dksX1_slot_1 3 rfl rfl)
theorem dX1_slot_28 : decode cX1_slot 28 = .ok (.astore 4, 2) := dk_58 4 (dk_at dksX1_slot_1 6 rfl rfl)
theorem dX1_slot_30 : decode cX1_slot 30 = .ok (.aload 4, 2) := dk_25 4 (dk_at dksX1_slot_1 8 rfl rfl)
theorem dX1_slot_32 : decode cX1_slot 32 = .ok (.invokevirtual 180, 3) := dk_182 0 180 (dk_at dksX1_slot_1 10 rfl rfl)
theorem dX1_slot_35 : decode cX1_slot 35 = .ok (.ifCond .eq 11, 3) := dk_153 0 11 (dk_at dksX1_slot_1 13 rfl rfl)
theorem dX1_slot_38 : decode cX1_slot 38 = .ok (.aload 4, 2) := dk_25 4 (dk_at dksX1_slot_1 16 rfl rfl)
theorem dX1_slot_40 : decode cX1_slot 40 = .ok (.getfield 231, 3) := dk_180 0 231 (dk_at dksX1_slot_1 18 rfl rfl)
theorem dX1_slot_43 : decode cX1_slot 43 = .ok (.goto 4, 3) := dk_167 0 4 (dk_at dksX1_slot_1 21 rfl rfl)
theorem dX1_slot_46 : decode cX1_slot 46 = .ok (.iconst (-1), 1) := dk_2 (dk_at dksX1_slot_2 0 rfl rfl)
theorem dX1_slot_47 : decode cX1_slot 47 = .ok (.ireturn, 1) := dk_172 (dk_at dksX1_slot_2 1 rfl rfl)
abbrev cX1_pattern : ByteArray := prog_1_method_24_code
def yX1_pattern : MethodName := ⟨RX1, "pattern", "(II)I"⟩
def dkwX1_pattern_0 : List UInt8 := [42, 27, 182, 0, 69, 182, 0, 234, 28, 184, 0, 212, 172]
abbrev dktX1_pattern_0 : List UInt8 := dkwX1_pattern_0 ++ []
theorem dksX1_pattern_0 : cX1_pattern.data.toList.drop 0 = dktX1_pattern_0 := by decide +kernel
theorem dX1_pattern_0 : decode cX1_pattern 0 = .ok (.aload_n 0, 1) := dk_42 (dk_at dksX1_pattern_0 0 rfl rfl)
theorem dX1_pattern_1 : decode cX1_pattern 1 = .ok (.iload_n 1, 1) := dk_27 (dk_at dksX1_pattern_0 1 rfl rfl)
theorem dX1_pattern_2 : decode cX1_pattern 2 = .ok (.invokevirtual 69, 3) := dk_182 0 69 (dk_at dksX1_pattern_0 2 rfl rfl)
theorem dX1_pattern_5 : decode cX1_pattern 5 = .ok (.invokevirtual 234, 3) := dk_182 0 234 (dk_at dksX1_pattern_0 5 rfl rfl)
theorem dX1_pattern_8 : decode cX1_pattern 8 = .ok (.iload_n 2, 1) := dk_28 (dk_at dksX1_pattern_0 8 rfl rfl)
theorem dX1_pattern_9 : decode cX1_pattern 9 = .ok (.invokestatic 212, 3) := dk_184 0 212 (dk_at dksX1_pattern_0 9 rfl rfl)
theorem dX1_pattern_12 : decode cX1_pattern 12 = .ok (.ireturn, 1) := dk_172 (dk_at dksX1_pattern_0 12 rfl rfl)
abbrev cX1_row : ByteArray := prog_1_method_25_code
def yX1_row : MethodName := ⟨RX1, "row", "(II)I"⟩
def dkwX1_row_1 : List UInt8 := [182, 0, 165, 192, 0, 151, 182, 0, 168, 172]
abbrev dktX1_row_1 : List UInt8 := dkwX1_row_1 ++ []
def dkwX1_row_0 : List UInt8 := [42, 27, 182, 0, 69, 78, 28, 45, 180, 0, 147, 182, 0, 54, 184, 0, 25, 45, 180, 0, 147, 28]
abbrev dktX1_row_0 : List UInt8 := dkwX1_row_0 ++ dktX1_row_1
theorem dksX1_row_0 : cX1_row.data.toList.drop 0 = dktX1_row_0 := by decide +kernel
theorem dksX1_row_1 : cX1_row.data.toList.drop 22 = dktX1_row_1 := dk_seg dksX1_row_0 22 rfl rfl
theorem dX1_row_0 : decode cX1_row 0 = .ok (.aload_n 0, 1) := dk_42 (dk_at dksX1_row_0 0 rfl rfl)
theorem dX1_row_1 : decode cX1_row 1 = .ok (.iload_n 1, 1) := dk_27 (dk_at dksX1_row_0 1 rfl rfl)
theorem dX1_row_2 : decode cX1_row 2 = .ok (.invokevirtual 69, 3) := dk_182 0 69 (dk_at dksX1_row_0 2 rfl rfl)
theorem dX1_row_5 : decode cX1_row 5 = .ok (.astore_n 3, 1) := dk_78 (dk_at dksX1_row_0 5 rfl rfl)
theorem dX1_row_6 : decode cX1_row 6 = .ok (.iload_n 2, 1) := dk_28 (dk_at dksX1_row_0 6 rfl rfl)
theorem dX1_row_7 : decode cX1_row 7 = .ok (.aload_n 3, 1) := dk_45 (dk_at dksX1_row_0 7 rfl rfl)
theorem dX1_row_8 : decode cX1_row 8 = .ok (.getfield 147, 3) := dk_180 0 147 (dk_at dksX1_row_0 8 rfl rfl)
theorem dX1_row_11 : decode cX1_row 11 = .ok (.invokevirtual 54, 3) := dk_182 0 54 (dk_at dksX1_row_0 11 rfl rfl)
theorem dX1_row_14 : decode cX1_row 14 = .ok (.invokestatic 25, 3) := dk_184 0 25 (dk_at dksX1_row_0 14 rfl rfl)
theorem dX1_row_17 : decode cX1_row 17 = .ok (.aload_n 3, 1) := dk_45 (dk_at dksX1_row_0 17 rfl rfl)
theorem dX1_row_18 : decode cX1_row 18 = .ok (.getfield 147, 3) := dk_180 0 147 (dk_at dksX1_row_0 18 rfl rfl)
theorem dX1_row_21 : decode cX1_row 21 = .ok (.iload_n 2, 1) := dk_28 (dk_at dksX1_row_0 21 rfl rfl)
theorem dX1_row_22 : decode cX1_row 22 = .ok (.invokevirtual 165, 3) := dk_182 0 165 (dk_at dksX1_row_1 0 rfl rfl)
theorem dX1_row_25 : decode cX1_row 25 = .ok (.checkcast 151, 3) := dk_192 0 151 (dk_at dksX1_row_1 3 rfl rfl)
theorem dX1_row_28 : decode cX1_row 28 = .ok (.invokevirtual 168, 3) := dk_182 0 168 (dk_at dksX1_row_1 6 rfl rfl)
theorem dX1_row_31 : decode cX1_row 31 = .ok (.ireturn, 1) := dk_172 (dk_at dksX1_row_1 9 rfl rfl)
abbrev cX1_merge : ByteArray := prog_1_method_27_code
def yX1_merge : MethodName := ⟨RX1, "merge", "(II)I"⟩
def dkwX1_merge_2 : List UInt8 := [181, 0, 125, 187, 0, 129, 89, 183, 0, 131, 191]
abbrev dktX1_merge_2 : List UInt8 := dkwX1_merge_2 ++ []
def dkwX1_merge_1 : List UInt8 := [54, 4, 42, 45, 182, 0, 120, 42, 180, 0, 39, 180, 0, 65, 21, 4, 50, 182, 0, 73, 172, 78, 42, 45]
abbrev dktX1_merge_1 : List UInt8 := dkwX1_merge_1 ++ dktX1_merge_2
def dkwX1_merge_0 : List UInt8 := [42, 27, 28, 182, 0, 237, 187, 0, 36, 89, 42, 180, 0, 39, 183, 0, 105, 78, 45, 27, 28, 182, 0, 240]
abbrev dktX1_merge_0 : List UInt8 := dkwX1_merge_0 ++ dktX1_merge_1
theorem dksX1_merge_0 : cX1_merge.data.toList.drop 0 = dktX1_merge_0 := by decide +kernel
theorem dksX1_merge_1 : cX1_merge.data.toList.drop 24 = dktX1_merge_1 := dk_seg dksX1_merge_0 24 rfl rfl
theorem dksX1_merge_2 : cX1_merge.data.toList.drop 48 = dktX1_merge_2 := dk_seg dksX1_merge_1 24 rfl rfl
theorem dX1_merge_0 : decode cX1_merge 0 = .ok (.aload_n 0, 1) := dk_42 (dk_at dksX1_merge_0 0 rfl rfl)
theorem dX1_merge_1 : decode cX1_merge 1 = .ok (.iload_n 1, 1) := dk_27 (dk_at dksX1_merge_0 1 rfl rfl)
theorem dX1_merge_2 : decode cX1_merge 2 = .ok (.iload_n 2, 1) := dk_28 (dk_at dksX1_merge_0 2 rfl rfl)
theorem dX1_merge_3 : decode cX1_merge 3 = .ok (.invokevirtual 237, 3) := dk_182 0 237 (dk_at dksX1_merge_0 3 rfl rfl)
theorem dX1_merge_6 : decode cX1_merge 6 = .ok (.new 36, 3) := dk_187 0 36 (dk_at dksX1_merge_0 6 rfl rfl)
theorem dX1_merge_9 : decode cX1_merge 9 = .ok (.dup, 1) := dk_89 (dk_at dksX1_merge_0 9 rfl rfl)
theorem dX1_merge_10 : decode cX1_merge 10 = .ok (.aload_n 0, 1) := dk_42 (dk_at dksX1_merge_0 10 rfl rfl)
theorem dX1_merge_11 : decode cX1_merge 11 = .ok (.getfield 39, 3) := dk_180 0 39 (dk_at dksX1_merge_0 11 rfl rfl)
theorem dX1_merge_14 : decode cX1_merge 14 = .ok (.invokespecial 105, 3) := dk_183 0 105 (dk_at dksX1_merge_0 14 rfl rfl)
theorem dX1_merge_17 : decode cX1_merge 17 = .ok (.astore_n 3, 1) := dk_78 (dk_at dksX1_merge_0 17 rfl rfl)
theorem dX1_merge_18 : decode cX1_merge 18 = .ok (.aload_n 3, 1) := dk_45 (dk_at dksX1_merge_0 18 rfl rfl)
theorem dX1_merge_19 : decode cX1_merge 19 = .ok (.iload_n 1, 1) := dk_27 (dk_at dksX1_merge_0 19 rfl rfl)
theorem dX1_merge_20 : decode cX1_merge 20 = .ok (.iload_n 2, 1) := dk_28 (dk_at dksX1_merge_0 20 rfl rfl)
theorem dX1_merge_21 : decode cX1_merge 21 = .ok (.invokevirtual 240, 3) := dk_182 0 240 (dk_at dksX1_merge_0 21 rfl rfl)
theorem dX1_merge_24 : decode cX1_merge 24 = .ok (.istore 4, 2) := dk_54 4 (dk_at dksX1_merge_1 0 rfl rfl)
theorem dX1_merge_26 : decode cX1_merge 26 = .ok (.aload_n 0, 1) := dk_42 (dk_at dksX1_merge_1 2 rfl rfl)
theorem dX1_merge_27 : decode cX1_merge 27 = .ok (.aload_n 3, 1) := dk_45 (dk_at dksX1_merge_1 3 rfl rfl)
theorem dX1_merge_28 : decode cX1_merge 28 = .ok (.invokevirtual 120, 3) := dk_182 0 120 (dk_at dksX1_merge_1 4 rfl rfl)
theorem dX1_merge_31 : decode cX1_merge 31 = .ok (.aload_n 0, 1) := dk_42 (dk_at dksX1_merge_1 7 rfl rfl)
theorem dX1_merge_32 : decode cX1_merge 32 = .ok (.getfield 39, 3) := dk_180 0 39 (dk_at dksX1_merge_1 8 rfl rfl)
theorem dX1_merge_35 : decode cX1_merge 35 = .ok (.getfield 65, 3) := dk_180 0 65 (dk_at dksX1_merge_1 11 rfl rfl)
theorem dX1_merge_38 : decode cX1_merge 38 = .ok (.iload 4, 2) := dk_21 4 (dk_at dksX1_merge_1 14 rfl rfl)
theorem dX1_merge_40 : decode cX1_merge 40 = .ok (.aaload, 1) := dk_50 (dk_at dksX1_merge_1 16 rfl rfl)
theorem dX1_merge_41 : decode cX1_merge 41 = .ok (.invokevirtual 73, 3) := dk_182 0 73 (dk_at dksX1_merge_1 17 rfl rfl)
theorem dX1_merge_44 : decode cX1_merge 44 = .ok (.ireturn, 1) := dk_172 (dk_at dksX1_merge_1 20 rfl rfl)
theorem dX1_merge_45 : decode cX1_merge 45 = .ok (.astore_n 3, 1) := dk_78 (dk_at dksX1_merge_1 21 rfl rfl)
theorem dX1_merge_46 : decode cX1_merge 46 = .ok (.aload_n 0, 1) := dk_42 (dk_at dksX1_merge_1 22 rfl rfl)
theorem dX1_merge_47 : decode cX1_merge 47 = .ok (.aload_n 3, 1) := dk_45 (dk_at dksX1_merge_1 23 rfl rfl)
theorem dX1_merge_48 : decode cX1_merge 48 = .ok (.putfield 125, 3) := dk_181 0 125 (dk_at dksX1_merge_2 0 rfl rfl)
theorem dX1_merge_51 : decode cX1_merge 51 = .ok (.new 129, 3) := dk_187 0 129 (dk_at dksX1_merge_2 3 rfl rfl)
theorem dX1_merge_54 : decode cX1_merge 54 = .ok (.dup, 1) := dk_89 (dk_at dksX1_merge_2 6 rfl rfl)
theorem dX1_merge_55 : decode cX1_merge 55 = .ok (.invokespecial 131, 3) := dk_183 0 131 (dk_at dksX1_merge_2 7 rfl rfl)
theorem dX1_merge_58 : decode cX1_merge 58 = .ok (.athrow, 1) := dk_191 (dk_at dksX1_merge_2 10 rfl rfl)
abbrev cX1_checkPair : ByteArray := prog_1_method_26_code
def yX1_checkPair : MethodName := ⟨RX1, "checkPair", "(II)V"⟩
def dkwX1_checkPair_1 : List UInt8 := [4, 167, 0, 4, 3, 184, 0, 102, 177]
abbrev dktX1_checkPair_1 : List UInt8 := dkwX1_checkPair_1 ++ []
def dkwX1_checkPair_0 : List UInt8 := [42, 27, 182, 0, 69, 78, 42, 28, 182, 0, 69, 58, 4, 27, 28, 159, 0, 13, 45, 25, 4, 165, 0, 7]
abbrev dktX1_checkPair_0 : List UInt8 := dkwX1_checkPair_0 ++ dktX1_checkPair_1
theorem dksX1_checkPair_0 : cX1_checkPair.data.toList.drop 0 = dktX1_checkPair_0 := by decide +kernel
theorem dksX1_checkPair_1 : cX1_checkPair.data.toList.drop 24 = dktX1_checkPair_1 := dk_seg dksX1_checkPair_0 24 rfl rfl
theorem dX1_checkPair_0 : decode cX1_checkPair 0 = .ok (.aload_n 0, 1) := dk_42 (dk_at dksX1_checkPair_0 0 rfl rfl)
theorem dX1_checkPair_1 : decode cX1_checkPair 1 = .ok (.iload_n 1, 1) := dk_27 (dk_at dksX1_checkPair_0 1 rfl rfl)
theorem dX1_checkPair_2 : decode cX1_checkPair 2 = .ok (.invokevirtual 69, 3) := dk_182 0 69 (dk_at dksX1_checkPair_0 2 rfl rfl)
theorem dX1_checkPair_5 : decode cX1_checkPair 5 = .ok (.astore_n 3, 1) := dk_78 (dk_at dksX1_checkPair_0 5 rfl rfl)
theorem dX1_checkPair_6 : decode cX1_checkPair 6 = .ok (.aload_n 0, 1) := dk_42 (dk_at dksX1_checkPair_0 6 rfl rfl)
theorem dX1_checkPair_7 : decode cX1_checkPair 7 = .ok (.iload_n 2, 1) := dk_28 (dk_at dksX1_checkPair_0 7 rfl rfl)
theorem dX1_checkPair_8 : decode cX1_checkPair 8 = .ok (.invokevirtual 69, 3) := dk_182 0 69 (dk_at dksX1_checkPair_0 8 rfl rfl)
theorem dX1_checkPair_11 : decode cX1_checkPair 11 = .ok (.astore 4, 2) := dk_58 4 (dk_at dksX1_checkPair_0 11 rfl rfl)
theorem dX1_checkPair_13 : decode cX1_checkPair 13 = .ok (.iload_n 1, 1) := dk_27 (dk_at dksX1_checkPair_0 13 rfl rfl)
theorem dX1_checkPair_14 : decode cX1_checkPair 14 = .ok (.iload_n 2, 1) := dk_28 (dk_at dksX1_checkPair_0 14 rfl rfl)
theorem dX1_checkPair_15 : decode cX1_checkPair 15 = .ok (.if_icmp .eq 13, 3) := dk_159 0 13 (dk_at dksX1_checkPair_0 15 rfl rfl)
theorem dX1_checkPair_18 : decode cX1_checkPair 18 = .ok (.aload_n 3, 1) := dk_45 (dk_at dksX1_checkPair_0 18 rfl rfl)
theorem dX1_checkPair_19 : decode cX1_checkPair 19 = .ok (.aload 4, 2) := dk_25 4 (dk_at dksX1_checkPair_0 19 rfl rfl)
theorem dX1_checkPair_21 : decode cX1_checkPair 21 = .ok (.if_acmp .eq 7, 3) := dk_165 0 7 (dk_at dksX1_checkPair_0 21 rfl rfl)
theorem dX1_checkPair_24 : decode cX1_checkPair 24 = .ok (.iconst 1, 1) := dk_4 (dk_at dksX1_checkPair_1 0 rfl rfl)
theorem dX1_checkPair_25 : decode cX1_checkPair 25 = .ok (.goto 4, 3) := dk_167 0 4 (dk_at dksX1_checkPair_1 1 rfl rfl)
theorem dX1_checkPair_28 : decode cX1_checkPair 28 = .ok (.iconst 0, 1) := dk_3 (dk_at dksX1_checkPair_1 4 rfl rfl)
theorem dX1_checkPair_29 : decode cX1_checkPair 29 = .ok (.invokestatic 102, 3) := dk_184 0 102 (dk_at dksX1_checkPair_1 5 rfl rfl)
theorem dX1_checkPair_32 : decode cX1_checkPair 32 = .ok (.return_, 1) := dk_177 (dk_at dksX1_checkPair_1 8 rfl rfl)
abbrev cX1_split : ByteArray := prog_1_method_28_code
def yX1_split : MethodName := ⟨RX1, "split", "(II)I"⟩
def dkwX1_split_3 : List UInt8 := [181, 0, 125, 187, 0, 129, 89, 183, 0, 131, 191]
abbrev dktX1_split_3 : List UInt8 := dkwX1_split_3 ++ []
def dkwX1_split_2 : List UInt8 := [25, 4, 27, 28, 182, 0, 244, 54, 5, 42, 25, 4, 182, 0, 120, 21, 5, 172, 58, 4, 42, 25, 4]
abbrev dktX1_split_2 : List UInt8 := dkwX1_split_2 ++ dktX1_split_3
def dkwX1_split_1 : List UInt8 := [162, 0, 7, 4, 167, 0, 4, 3, 184, 0, 94, 187, 0, 36, 89, 42, 180, 0, 39, 183, 0, 105, 58, 4]
abbrev dktX1_split_1 : List UInt8 := dkwX1_split_1 ++ dktX1_split_2
def dkwX1_split_0 : List UInt8 := [42, 27, 182, 0, 69, 78, 28, 45, 182, 0, 73, 184, 0, 25, 42, 180, 0, 39, 182, 0, 132, 16, 12]
abbrev dktX1_split_0 : List UInt8 := dkwX1_split_0 ++ dktX1_split_1
theorem dksX1_split_0 : cX1_split.data.toList.drop 0 = dktX1_split_0 := by decide +kernel
theorem dksX1_split_1 : cX1_split.data.toList.drop 23 = dktX1_split_1 := dk_seg dksX1_split_0 23 rfl rfl
theorem dksX1_split_2 : cX1_split.data.toList.drop 47 = dktX1_split_2 := dk_seg dksX1_split_1 24 rfl rfl
theorem dksX1_split_3 : cX1_split.data.toList.drop 70 = dktX1_split_3 := dk_seg dksX1_split_2 23 rfl rfl
theorem dX1_split_0 : decode cX1_split 0 = .ok (.aload_n 0, 1) := dk_42 (dk_at dksX1_split_0 0 rfl rfl)
theorem dX1_split_1 : decode cX1_split 1 = .ok (.iload_n 1, 1) := dk_27 (dk_at dksX1_split_0 1 rfl rfl)
theorem dX1_split_2 : decode cX1_split 2 = .ok (.invokevirtual 69, 3) := dk_182 0 69 (dk_at dksX1_split_0 2 rfl rfl)
theorem dX1_split_5 : decode cX1_split 5 = .ok (.astore_n 3, 1) := dk_78 (dk_at dksX1_split_0 5 rfl rfl)
theorem dX1_split_6 : decode cX1_split 6 = .ok (.iload_n 2, 1) := dk_28 (dk_at dksX1_split_0 6 rfl rfl)
theorem dX1_split_7 : decode cX1_split 7 = .ok (.aload_n 3, 1) := dk_45 (dk_at dksX1_split_0 7 rfl rfl)
theorem dX1_split_8 : decode cX1_split 8 = .ok (.invokevirtual 73, 3) := dk_182 0 73 (dk_at dksX1_split_0 8 rfl rfl)
theorem dX1_split_11 : decode cX1_split 11 = .ok (.invokestatic 25, 3) := dk_184 0 25 (dk_at dksX1_split_0 11 rfl rfl)
theorem dX1_split_14 : decode cX1_split 14 = .ok (.aload_n 0, 1) := dk_42 (dk_at dksX1_split_0 14 rfl rfl)
theorem dX1_split_15 : decode cX1_split 15 = .ok (.getfield 39, 3) := dk_180 0 39 (dk_at dksX1_split_0 15 rfl rfl)
theorem dX1_split_18 : decode cX1_split 18 = .ok (.invokevirtual 132, 3) := dk_182 0 132 (dk_at dksX1_split_0 18 rfl rfl)
theorem dX1_split_21 : decode cX1_split 21 = .ok (.bipush 12, 2) := dk_16 12 (dk_at dksX1_split_0 21 rfl rfl)
theorem dX1_split_23 : decode cX1_split 23 = .ok (.if_icmp .ge 7, 3) := dk_162 0 7 (dk_at dksX1_split_1 0 rfl rfl)
theorem dX1_split_26 : decode cX1_split 26 = .ok (.iconst 1, 1) := dk_4 (dk_at dksX1_split_1 3 rfl rfl)
theorem dX1_split_27 : decode cX1_split 27 = .ok (.goto 4, 3) := dk_167 0 4 (dk_at dksX1_split_1 4 rfl rfl)
theorem dX1_split_30 : decode cX1_split 30 = .ok (.iconst 0, 1) := dk_3 (dk_at dksX1_split_1 7 rfl rfl)
theorem dX1_split_31 : decode cX1_split 31 = .ok (.invokestatic 94, 3) := dk_184 0 94 (dk_at dksX1_split_1 8 rfl rfl)
theorem dX1_split_34 : decode cX1_split 34 = .ok (.new 36, 3) := dk_187 0 36 (dk_at dksX1_split_1 11 rfl rfl)
theorem dX1_split_37 : decode cX1_split 37 = .ok (.dup, 1) := dk_89 (dk_at dksX1_split_1 14 rfl rfl)
theorem dX1_split_38 : decode cX1_split 38 = .ok (.aload_n 0, 1) := dk_42 (dk_at dksX1_split_1 15 rfl rfl)
theorem dX1_split_39 : decode cX1_split 39 = .ok (.getfield 39, 3) := dk_180 0 39 (dk_at dksX1_split_1 16 rfl rfl)
theorem dX1_split_42 : decode cX1_split 42 = .ok (.invokespecial 105, 3) := dk_183 0 105 (dk_at dksX1_split_1 19 rfl rfl)
theorem dX1_split_45 : decode cX1_split 45 = .ok (.astore 4, 2) := dk_58 4 (dk_at dksX1_split_1 22 rfl rfl)
theorem dX1_split_47 : decode cX1_split 47 = .ok (.aload 4, 2) := dk_25 4 (dk_at dksX1_split_2 0 rfl rfl)
theorem dX1_split_49 : decode cX1_split 49 = .ok (.iload_n 1, 1) := dk_27 (dk_at dksX1_split_2 2 rfl rfl)
theorem dX1_split_50 : decode cX1_split 50 = .ok (.iload_n 2, 1) := dk_28 (dk_at dksX1_split_2 3 rfl rfl)
theorem dX1_split_51 : decode cX1_split 51 = .ok (.invokevirtual 244, 3) := dk_182 0 244 (dk_at dksX1_split_2 4 rfl rfl)
theorem dX1_split_54 : decode cX1_split 54 = .ok (.istore 5, 2) := dk_54 5 (dk_at dksX1_split_2 7 rfl rfl)
theorem dX1_split_56 : decode cX1_split 56 = .ok (.aload_n 0, 1) := dk_42 (dk_at dksX1_split_2 9 rfl rfl)
theorem dX1_split_57 : decode cX1_split 57 = .ok (.aload 4, 2) := dk_25 4 (dk_at dksX1_split_2 10 rfl rfl)
theorem dX1_split_59 : decode cX1_split 59 = .ok (.invokevirtual 120, 3) := dk_182 0 120 (dk_at dksX1_split_2 12 rfl rfl)
theorem dX1_split_62 : decode cX1_split 62 = .ok (.iload 5, 2) := dk_21 5 (dk_at dksX1_split_2 15 rfl rfl)
theorem dX1_split_64 : decode cX1_split 64 = .ok (.ireturn, 1) := dk_172 (dk_at dksX1_split_2 17 rfl rfl)
theorem dX1_split_65 : decode cX1_split 65 = .ok (.astore 4, 2) := dk_58 4 (dk_at dksX1_split_2 18 rfl rfl)
theorem dX1_split_67 : decode cX1_split 67 = .ok (.aload_n 0, 1) := dk_42 (dk_at dksX1_split_2 20 rfl rfl)
theorem dX1_split_68 : decode cX1_split 68 = .ok (.aload 4, 2) := dk_25 4 (dk_at dksX1_split_2 21 rfl rfl)
theorem dX1_split_70 : decode cX1_split 70 = .ok (.putfield 125, 3) := dk_181 0 125 (dk_at dksX1_split_3 0 rfl rfl)
theorem dX1_split_73 : decode cX1_split 73 = .ok (.new 129, 3) := dk_187 0 129 (dk_at dksX1_split_3 3 rfl rfl)
theorem dX1_split_76 : decode cX1_split 76 = .ok (.dup, 1) := dk_89 (dk_at dksX1_split_3 6 rfl rfl)
theorem dX1_split_77 : decode cX1_split 77 = .ok (.invokespecial 131, 3) := dk_183 0 131 (dk_at dksX1_split_3 7 rfl rfl)
theorem dX1_split_80 : decode cX1_split 80 = .ok (.athrow, 1) := dk_191 (dk_at dksX1_split_3 10 rfl rfl)
abbrev cX1_gain : ByteArray := prog_1_method_29_code
def yX1_gain : MethodName := ⟨RX1, "gain", "(II)I"⟩
def dkwX1_gain_1 : List UInt8 := [191]
abbrev dktX1_gain_1 : List UInt8 := dkwX1_gain_1 ++ []
def dkwX1_gain_0 : List UInt8 := [42, 27, 28, 182, 0, 237, 42, 180, 0, 39, 27, 28, 182, 0, 247, 172, 78, 187, 0, 129, 89, 183, 0, 131]
abbrev dktX1_gain_0 : List UInt8 := dkwX1_gain_0 ++ dktX1_gain_1
theorem dksX1_gain_0 : cX1_gain.data.toList.drop 0 = dktX1_gain_0 := by decide +kernel
theorem dksX1_gain_1 : cX1_gain.data.toList.drop 24 = dktX1_gain_1 := dk_seg dksX1_gain_0 24 rfl rfl
theorem dX1_gain_0 : decode cX1_gain 0 = .ok (.aload_n 0, 1) := dk_42 (dk_at dksX1_gain_0 0 rfl rfl)
theorem dX1_gain_1 : decode cX1_gain 1 = .ok (.iload_n 1, 1) := dk_27 (dk_at dksX1_gain_0 1 rfl rfl)
theorem dX1_gain_2 : decode cX1_gain 2 = .ok (.iload_n 2, 1) := dk_28 (dk_at dksX1_gain_0 2 rfl rfl)
theorem dX1_gain_3 : decode cX1_gain 3 = .ok (.invokevirtual 237, 3) := dk_182 0 237 (dk_at dksX1_gain_0 3 rfl rfl)
theorem dX1_gain_6 : decode cX1_gain 6 = .ok (.aload_n 0, 1) := dk_42 (dk_at dksX1_gain_0 6 rfl rfl)
theorem dX1_gain_7 : decode cX1_gain 7 = .ok (.getfield 39, 3) := dk_180 0 39 (dk_at dksX1_gain_0 7 rfl rfl)
theorem dX1_gain_10 : decode cX1_gain 10 = .ok (.iload_n 1, 1) := dk_27 (dk_at dksX1_gain_0 10 rfl rfl)
theorem dX1_gain_11 : decode cX1_gain 11 = .ok (.iload_n 2, 1) := dk_28 (dk_at dksX1_gain_0 11 rfl rfl)
theorem dX1_gain_12 : decode cX1_gain 12 = .ok (.invokevirtual 247, 3) := dk_182 0 247 (dk_at dksX1_gain_0 12 rfl rfl)
theorem dX1_gain_15 : decode cX1_gain 15 = .ok (.ireturn, 1) := dk_172 (dk_at dksX1_gain_0 15 rfl rfl)
theorem dX1_gain_16 : decode cX1_gain 16 = .ok (.astore_n 3, 1) := dk_78 (dk_at dksX1_gain_0 16 rfl rfl)
theorem dX1_gain_17 : decode cX1_gain 17 = .ok (.new 129, 3) := dk_187 0 129 (dk_at dksX1_gain_0 17 rfl rfl)
theorem dX1_gain_20 : decode cX1_gain 20 = .ok (.dup, 1) := dk_89 (dk_at dksX1_gain_0 20 rfl rfl)
theorem dX1_gain_21 : decode cX1_gain 21 = .ok (.invokespecial 131, 3) := dk_183 0 131 (dk_at dksX1_gain_0 21 rfl rfl)
theorem dX1_gain_24 : decode cX1_gain 24 = .ok (.athrow, 1) := dk_191 (dk_at dksX1_gain_1 0 rfl rfl)
abbrev cX1_column : ByteArray := prog_1_method_31_code
def yX1_column : MethodName := ⟨RX1, "column", "(III)I"⟩
def dkwX1_column_3 : List UInt8 := [182, 1, 7, 172, 25, 4, 182, 1, 10, 172]
abbrev dktX1_column_3 : List UInt8 := dkwX1_column_3 ++ []
def dkwX1_column_2 : List UInt8 := [42, 27, 182, 0, 69, 28, 182, 0, 83, 172, 25, 4, 182, 1, 1, 172, 25, 4, 182, 1, 4, 172, 25, 4]
abbrev dktX1_column_2 : List UInt8 := dkwX1_column_2 ++ dktX1_column_3
def dkwX1_column_1 : List UInt8 := [170, 0, 0, 0, 0, 58, 0, 0, 0, 0, 0, 0, 0, 3, 0, 0, 0, 30, 0, 0, 0, 40, 0, 0, 0, 46, 0, 0, 0, 52]
abbrev dktX1_column_1 : List UInt8 := dkwX1_column_1 ++ dktX1_column_2
def dkwX1_column_0 : List UInt8 := [42, 27, 28, 182, 0, 253, 58, 4, 29, 3, 7, 184, 0, 10, 184, 0, 102, 29]
abbrev dktX1_column_0 : List UInt8 := dkwX1_column_0 ++ dktX1_column_1
theorem dksX1_column_0 : cX1_column.data.toList.drop 0 = dktX1_column_0 := by decide +kernel
theorem dksX1_column_1 : cX1_column.data.toList.drop 18 = dktX1_column_1 := dk_seg dksX1_column_0 18 rfl rfl
theorem dksX1_column_2 : cX1_column.data.toList.drop 48 = dktX1_column_2 := dk_seg dksX1_column_1 30 rfl rfl
theorem dksX1_column_3 : cX1_column.data.toList.drop 72 = dktX1_column_3 := dk_seg dksX1_column_2 24 rfl rfl
theorem dX1_column_0 : decode cX1_column 0 = .ok (.aload_n 0, 1) := dk_42 (dk_at dksX1_column_0 0 rfl rfl)
theorem dX1_column_1 : decode cX1_column 1 = .ok (.iload_n 1, 1) := dk_27 (dk_at dksX1_column_0 1 rfl rfl)
theorem dX1_column_2 : decode cX1_column 2 = .ok (.iload_n 2, 1) := dk_28 (dk_at dksX1_column_0 2 rfl rfl)
theorem dX1_column_3 : decode cX1_column 3 = .ok (.invokevirtual 253, 3) := dk_182 0 253 (dk_at dksX1_column_0 3 rfl rfl)
theorem dX1_column_6 : decode cX1_column 6 = .ok (.astore 4, 2) := dk_58 4 (dk_at dksX1_column_0 6 rfl rfl)
theorem dX1_column_8 : decode cX1_column 8 = .ok (.iload_n 3, 1) := dk_29 (dk_at dksX1_column_0 8 rfl rfl)
theorem dX1_column_9 : decode cX1_column 9 = .ok (.iconst 0, 1) := dk_3 (dk_at dksX1_column_0 9 rfl rfl)
theorem dX1_column_10 : decode cX1_column 10 = .ok (.iconst 4, 1) := dk_7 (dk_at dksX1_column_0 10 rfl rfl)
theorem dX1_column_11 : decode cX1_column 11 = .ok (.invokestatic 10, 3) := dk_184 0 10 (dk_at dksX1_column_0 11 rfl rfl)
theorem dX1_column_14 : decode cX1_column 14 = .ok (.invokestatic 102, 3) := dk_184 0 102 (dk_at dksX1_column_0 14 rfl rfl)
theorem dX1_column_17 : decode cX1_column 17 = .ok (.iload_n 3, 1) := dk_29 (dk_at dksX1_column_0 17 rfl rfl)
theorem dX1_column_18 : decode cX1_column 18 = .ok (.tableswitch 58 0 3 #[30, 40, 46, 52], 30) := by decide +kernel
theorem dX1_column_48 : decode cX1_column 48 = .ok (.aload_n 0, 1) := dk_42 (dk_at dksX1_column_2 0 rfl rfl)
theorem dX1_column_49 : decode cX1_column 49 = .ok (.iload_n 1, 1) := dk_27 (dk_at dksX1_column_2 1 rfl rfl)
theorem dX1_column_50 : decode cX1_column 50 = .ok (.invokevirtual 69, 3) := dk_182 0 69 (dk_at dksX1_column_2 2 rfl rfl)
theorem dX1_column_53 : decode cX1_column 53 = .ok (.iload_n 2, 1) := dk_28 (dk_at dksX1_column_2 5 rfl rfl)
theorem dX1_column_54 : decode cX1_column 54 = .ok (.invokevirtual 83, 3) := dk_182 0 83 (dk_at dksX1_column_2 6 rfl rfl)
theorem dX1_column_57 : decode cX1_column 57 = .ok (.ireturn, 1) := dk_172 (dk_at dksX1_column_2 9 rfl rfl)
theorem dX1_column_58 : decode cX1_column 58 = .ok (.aload 4, 2) := dk_25 4 (dk_at dksX1_column_2 10 rfl rfl)
theorem dX1_column_60 : decode cX1_column 60 = .ok (.invokevirtual 257, 3) := dk_182 1 1 (dk_at dksX1_column_2 12 rfl rfl)
theorem dX1_column_63 : decode cX1_column 63 = .ok (.ireturn, 1) := dk_172 (dk_at dksX1_column_2 15 rfl rfl)
theorem dX1_column_64 : decode cX1_column 64 = .ok (.aload 4, 2) := dk_25 4 (dk_at dksX1_column_2 16 rfl rfl)
theorem dX1_column_66 : decode cX1_column 66 = .ok (.invokevirtual 260, 3) := dk_182 1 4 (dk_at dksX1_column_2 18 rfl rfl)
theorem dX1_column_69 : decode cX1_column 69 = .ok (.ireturn, 1) := dk_172 (dk_at dksX1_column_2 21 rfl rfl)
theorem dX1_column_70 : decode cX1_column 70 = .ok (.aload 4, 2) := dk_25 4 (dk_at dksX1_column_2 22 rfl rfl)
theorem dX1_column_72 : decode cX1_column 72 = .ok (.invokevirtual 263, 3) := dk_182 1 7 (dk_at dksX1_column_3 0 rfl rfl)
theorem dX1_column_75 : decode cX1_column 75 = .ok (.ireturn, 1) := dk_172 (dk_at dksX1_column_3 3 rfl rfl)
theorem dX1_column_76 : decode cX1_column 76 = .ok (.aload 4, 2) := dk_25 4 (dk_at dksX1_column_3 4 rfl rfl)
theorem dX1_column_78 : decode cX1_column 78 = .ok (.invokevirtual 266, 3) := dk_182 1 10 (dk_at dksX1_column_3 6 rfl rfl)
theorem dX1_column_81 : decode cX1_column 81 = .ok (.ireturn, 1) := dk_172 (dk_at dksX1_column_3 9 rfl rfl)
abbrev cX1_columnAt : ByteArray := prog_1_method_9_code
def yX1_columnAt : MethodName := ⟨RX1, "columnAt", "(II)LLogCompactor$Column;"⟩
def dkwX1_columnAt_1 : List UInt8 := [180, 0, 80, 45, 45, 28, 182, 0, 83, 183, 0, 87, 176]
abbrev dktX1_columnAt_1 : List UInt8 := dkwX1_columnAt_1 ++ []
def dkwX1_columnAt_0 : List UInt8 := [42, 27, 182, 0, 69, 78, 28, 45, 182, 0, 73, 184, 0, 25, 187, 0, 78, 89, 42, 180, 0, 39]
abbrev dktX1_columnAt_0 : List UInt8 := dkwX1_columnAt_0 ++ dktX1_columnAt_1
theorem dksX1_columnAt_0 : cX1_columnAt.data.toList.drop 0 = dktX1_columnAt_0 := by decide +kernel
theorem dksX1_columnAt_1 : cX1_columnAt.data.toList.drop 22 = dktX1_columnAt_1 := dk_seg dksX1_columnAt_0 22 rfl rfl
theorem dX1_columnAt_0 : decode cX1_columnAt 0 = .ok (.aload_n 0, 1) := dk_42 (dk_at dksX1_columnAt_0 0 rfl rfl)
theorem dX1_columnAt_1 : decode cX1_columnAt 1 = .ok (.iload_n 1, 1) := dk_27 (dk_at dksX1_columnAt_0 1 rfl rfl)
theorem dX1_columnAt_2 : decode cX1_columnAt 2 = .ok (.invokevirtual 69, 3) := dk_182 0 69 (dk_at dksX1_columnAt_0 2 rfl rfl)
theorem dX1_columnAt_5 : decode cX1_columnAt 5 = .ok (.astore_n 3, 1) := dk_78 (dk_at dksX1_columnAt_0 5 rfl rfl)
theorem dX1_columnAt_6 : decode cX1_columnAt 6 = .ok (.iload_n 2, 1) := dk_28 (dk_at dksX1_columnAt_0 6 rfl rfl)
theorem dX1_columnAt_7 : decode cX1_columnAt 7 = .ok (.aload_n 3, 1) := dk_45 (dk_at dksX1_columnAt_0 7 rfl rfl)
theorem dX1_columnAt_8 : decode cX1_columnAt 8 = .ok (.invokevirtual 73, 3) := dk_182 0 73 (dk_at dksX1_columnAt_0 8 rfl rfl)
theorem dX1_columnAt_11 : decode cX1_columnAt 11 = .ok (.invokestatic 25, 3) := dk_184 0 25 (dk_at dksX1_columnAt_0 11 rfl rfl)
theorem dX1_columnAt_14 : decode cX1_columnAt 14 = .ok (.new 78, 3) := dk_187 0 78 (dk_at dksX1_columnAt_0 14 rfl rfl)
theorem dX1_columnAt_17 : decode cX1_columnAt 17 = .ok (.dup, 1) := dk_89 (dk_at dksX1_columnAt_0 17 rfl rfl)
theorem dX1_columnAt_18 : decode cX1_columnAt 18 = .ok (.aload_n 0, 1) := dk_42 (dk_at dksX1_columnAt_0 18 rfl rfl)
theorem dX1_columnAt_19 : decode cX1_columnAt 19 = .ok (.getfield 39, 3) := dk_180 0 39 (dk_at dksX1_columnAt_0 19 rfl rfl)
theorem dX1_columnAt_22 : decode cX1_columnAt 22 = .ok (.getfield 80, 3) := dk_180 0 80 (dk_at dksX1_columnAt_1 0 rfl rfl)
theorem dX1_columnAt_25 : decode cX1_columnAt 25 = .ok (.aload_n 3, 1) := dk_45 (dk_at dksX1_columnAt_1 3 rfl rfl)
theorem dX1_columnAt_26 : decode cX1_columnAt 26 = .ok (.aload_n 3, 1) := dk_45 (dk_at dksX1_columnAt_1 4 rfl rfl)
theorem dX1_columnAt_27 : decode cX1_columnAt 27 = .ok (.iload_n 2, 1) := dk_28 (dk_at dksX1_columnAt_1 5 rfl rfl)
theorem dX1_columnAt_28 : decode cX1_columnAt 28 = .ok (.invokevirtual 83, 3) := dk_182 0 83 (dk_at dksX1_columnAt_1 6 rfl rfl)
theorem dX1_columnAt_31 : decode cX1_columnAt 31 = .ok (.invokespecial 87, 3) := dk_183 0 87 (dk_at dksX1_columnAt_1 9 rfl rfl)
theorem dX1_columnAt_34 : decode cX1_columnAt 34 = .ok (.areturn, 1) := dk_176 (dk_at dksX1_columnAt_1 12 rfl rfl)
abbrev cX1_cost : ByteArray := prog_1_method_32_code
def yX1_cost : MethodName := ⟨RX1, "cost", "(III)I"⟩
def dkwX1_cost_0 : List UInt8 := [42, 27, 28, 182, 0, 253, 58, 4, 29, 3, 6, 184, 0, 10, 184, 0, 102, 25, 4, 29, 182, 1, 13, 172]
abbrev dktX1_cost_0 : List UInt8 := dkwX1_cost_0 ++ []
theorem dksX1_cost_0 : cX1_cost.data.toList.drop 0 = dktX1_cost_0 := by decide +kernel
theorem dX1_cost_0 : decode cX1_cost 0 = .ok (.aload_n 0, 1) := dk_42 (dk_at dksX1_cost_0 0 rfl rfl)
theorem dX1_cost_1 : decode cX1_cost 1 = .ok (.iload_n 1, 1) := dk_27 (dk_at dksX1_cost_0 1 rfl rfl)
theorem dX1_cost_2 : decode cX1_cost 2 = .ok (.iload_n 2, 1) := dk_28 (dk_at dksX1_cost_0 2 rfl rfl)
theorem dX1_cost_3 : decode cX1_cost 3 = .ok (.invokevirtual 253, 3) := dk_182 0 253 (dk_at dksX1_cost_0 3 rfl rfl)
theorem dX1_cost_6 : decode cX1_cost 6 = .ok (.astore 4, 2) := dk_58 4 (dk_at dksX1_cost_0 6 rfl rfl)
theorem dX1_cost_8 : decode cX1_cost 8 = .ok (.iload_n 3, 1) := dk_29 (dk_at dksX1_cost_0 8 rfl rfl)
theorem dX1_cost_9 : decode cX1_cost 9 = .ok (.iconst 0, 1) := dk_3 (dk_at dksX1_cost_0 9 rfl rfl)
theorem dX1_cost_10 : decode cX1_cost 10 = .ok (.iconst 3, 1) := dk_6 (dk_at dksX1_cost_0 10 rfl rfl)
theorem dX1_cost_11 : decode cX1_cost 11 = .ok (.invokestatic 10, 3) := dk_184 0 10 (dk_at dksX1_cost_0 11 rfl rfl)
theorem dX1_cost_14 : decode cX1_cost 14 = .ok (.invokestatic 102, 3) := dk_184 0 102 (dk_at dksX1_cost_0 14 rfl rfl)
theorem dX1_cost_17 : decode cX1_cost 17 = .ok (.aload 4, 2) := dk_25 4 (dk_at dksX1_cost_0 17 rfl rfl)
theorem dX1_cost_19 : decode cX1_cost 19 = .ok (.iload_n 3, 1) := dk_29 (dk_at dksX1_cost_0 19 rfl rfl)
theorem dX1_cost_20 : decode cX1_cost 20 = .ok (.invokevirtual 269, 3) := dk_182 1 13 (dk_at dksX1_cost_0 20 rfl rfl)
theorem dX1_cost_23 : decode cX1_cost 23 = .ok (.ireturn, 1) := dk_172 (dk_at dksX1_cost_0 23 rfl rfl)
abbrev cX1_code : ByteArray := prog_1_method_33_code
def yX1_code : MethodName := ⟨RX1, "code", "(III)I"⟩
def dkwX1_code_0 : List UInt8 := [42, 27, 28, 182, 0, 253, 58, 4, 29, 25, 4, 180, 1, 15, 184, 0, 25, 25, 4, 29, 182, 1, 17, 172]
abbrev dktX1_code_0 : List UInt8 := dkwX1_code_0 ++ []
theorem dksX1_code_0 : cX1_code.data.toList.drop 0 = dktX1_code_0 := by decide +kernel
theorem dX1_code_0 : decode cX1_code 0 = .ok (.aload_n 0, 1) := dk_42 (dk_at dksX1_code_0 0 rfl rfl)
theorem dX1_code_1 : decode cX1_code 1 = .ok (.iload_n 1, 1) := dk_27 (dk_at dksX1_code_0 1 rfl rfl)
theorem dX1_code_2 : decode cX1_code 2 = .ok (.iload_n 2, 1) := dk_28 (dk_at dksX1_code_0 2 rfl rfl)
theorem dX1_code_3 : decode cX1_code 3 = .ok (.invokevirtual 253, 3) := dk_182 0 253 (dk_at dksX1_code_0 3 rfl rfl)
theorem dX1_code_6 : decode cX1_code 6 = .ok (.astore 4, 2) := dk_58 4 (dk_at dksX1_code_0 6 rfl rfl)
theorem dX1_code_8 : decode cX1_code 8 = .ok (.iload_n 3, 1) := dk_29 (dk_at dksX1_code_0 8 rfl rfl)
theorem dX1_code_9 : decode cX1_code 9 = .ok (.aload 4, 2) := dk_25 4 (dk_at dksX1_code_0 9 rfl rfl)
theorem dX1_code_11 : decode cX1_code 11 = .ok (.getfield 271, 3) := dk_180 1 15 (dk_at dksX1_code_0 11 rfl rfl)
theorem dX1_code_14 : decode cX1_code 14 = .ok (.invokestatic 25, 3) := dk_184 0 25 (dk_at dksX1_code_0 14 rfl rfl)
theorem dX1_code_17 : decode cX1_code 17 = .ok (.aload 4, 2) := dk_25 4 (dk_at dksX1_code_0 17 rfl rfl)
theorem dX1_code_19 : decode cX1_code 19 = .ok (.iload_n 3, 1) := dk_29 (dk_at dksX1_code_0 19 rfl rfl)
theorem dX1_code_20 : decode cX1_code 20 = .ok (.invokevirtual 273, 3) := dk_182 1 17 (dk_at dksX1_code_0 20 rfl rfl)
theorem dX1_code_23 : decode cX1_code 23 = .ok (.ireturn, 1) := dk_172 (dk_at dksX1_code_0 23 rfl rfl)
abbrev cX1_value : ByteArray := prog_1_method_34_code
def yX1_value : MethodName := ⟨RX1, "value", "(III)I"⟩
def dkwX1_value_2 : List UInt8 := [182, 1, 24, 172]
abbrev dktX1_value_2 : List UInt8 := dkwX1_value_2 ++ []
def dkwX1_value_1 : List UInt8 := [180, 1, 20, 5, 159, 0, 11, 187, 1, 21, 89, 183, 1, 23, 191, 25, 4, 180, 0, 183, 29, 50]
abbrev dktX1_value_1 : List UInt8 := dkwX1_value_1 ++ dktX1_value_2
def dkwX1_value_0 : List UInt8 := [42, 27, 28, 182, 0, 253, 58, 4, 29, 25, 4, 180, 1, 15, 184, 0, 25, 25, 4, 180, 0, 183, 29, 50]
abbrev dktX1_value_0 : List UInt8 := dkwX1_value_0 ++ dktX1_value_1
theorem dksX1_value_0 : cX1_value.data.toList.drop 0 = dktX1_value_0 := by decide +kernel
theorem dksX1_value_1 : cX1_value.data.toList.drop 24 = dktX1_value_1 := dk_seg dksX1_value_0 24 rfl rfl
theorem dksX1_value_2 : cX1_value.data.toList.drop 46 = dktX1_value_2 := dk_seg dksX1_value_1 22 rfl rfl
theorem dX1_value_0 : decode cX1_value 0 = .ok (.aload_n 0, 1) := dk_42 (dk_at dksX1_value_0 0 rfl rfl)
theorem dX1_value_1 : decode cX1_value 1 = .ok (.iload_n 1, 1) := dk_27 (dk_at dksX1_value_0 1 rfl rfl)
theorem dX1_value_2 : decode cX1_value 2 = .ok (.iload_n 2, 1) := dk_28 (dk_at dksX1_value_0 2 rfl rfl)
theorem dX1_value_3 : decode cX1_value 3 = .ok (.invokevirtual 253, 3) := dk_182 0 253 (dk_at dksX1_value_0 3 rfl rfl)
theorem dX1_value_6 : decode cX1_value 6 = .ok (.astore 4, 2) := dk_58 4 (dk_at dksX1_value_0 6 rfl rfl)
theorem dX1_value_8 : decode cX1_value 8 = .ok (.iload_n 3, 1) := dk_29 (dk_at dksX1_value_0 8 rfl rfl)
theorem dX1_value_9 : decode cX1_value 9 = .ok (.aload 4, 2) := dk_25 4 (dk_at dksX1_value_0 9 rfl rfl)
theorem dX1_value_11 : decode cX1_value 11 = .ok (.getfield 271, 3) := dk_180 1 15 (dk_at dksX1_value_0 11 rfl rfl)
theorem dX1_value_14 : decode cX1_value 14 = .ok (.invokestatic 25, 3) := dk_184 0 25 (dk_at dksX1_value_0 14 rfl rfl)
theorem dX1_value_17 : decode cX1_value 17 = .ok (.aload 4, 2) := dk_25 4 (dk_at dksX1_value_0 17 rfl rfl)
theorem dX1_value_19 : decode cX1_value 19 = .ok (.getfield 183, 3) := dk_180 0 183 (dk_at dksX1_value_0 19 rfl rfl)
theorem dX1_value_22 : decode cX1_value 22 = .ok (.iload_n 3, 1) := dk_29 (dk_at dksX1_value_0 22 rfl rfl)
theorem dX1_value_23 : decode cX1_value 23 = .ok (.aaload, 1) := dk_50 (dk_at dksX1_value_0 23 rfl rfl)
theorem dX1_value_24 : decode cX1_value 24 = .ok (.getfield 276, 3) := dk_180 1 20 (dk_at dksX1_value_1 0 rfl rfl)
theorem dX1_value_27 : decode cX1_value 27 = .ok (.iconst 2, 1) := dk_5 (dk_at dksX1_value_1 3 rfl rfl)
theorem dX1_value_28 : decode cX1_value 28 = .ok (.if_icmp .eq 11, 3) := dk_159 0 11 (dk_at dksX1_value_1 4 rfl rfl)
theorem dX1_value_31 : decode cX1_value 31 = .ok (.new 277, 3) := dk_187 1 21 (dk_at dksX1_value_1 7 rfl rfl)
theorem dX1_value_34 : decode cX1_value 34 = .ok (.dup, 1) := dk_89 (dk_at dksX1_value_1 10 rfl rfl)
theorem dX1_value_35 : decode cX1_value 35 = .ok (.invokespecial 279, 3) := dk_183 1 23 (dk_at dksX1_value_1 11 rfl rfl)
theorem dX1_value_38 : decode cX1_value 38 = .ok (.athrow, 1) := dk_191 (dk_at dksX1_value_1 14 rfl rfl)
theorem dX1_value_39 : decode cX1_value 39 = .ok (.aload 4, 2) := dk_25 4 (dk_at dksX1_value_1 15 rfl rfl)
theorem dX1_value_41 : decode cX1_value 41 = .ok (.getfield 183, 3) := dk_180 0 183 (dk_at dksX1_value_1 17 rfl rfl)
theorem dX1_value_44 : decode cX1_value 44 = .ok (.iload_n 3, 1) := dk_29 (dk_at dksX1_value_1 20 rfl rfl)
theorem dX1_value_45 : decode cX1_value 45 = .ok (.aaload, 1) := dk_50 (dk_at dksX1_value_1 21 rfl rfl)
theorem dX1_value_46 : decode cX1_value 46 = .ok (.invokevirtual 280, 3) := dk_182 1 24 (dk_at dksX1_value_2 0 rfl rfl)
theorem dX1_value_49 : decode cX1_value 49 = .ok (.ireturn, 1) := dk_172 (dk_at dksX1_value_2 3 rfl rfl)
abbrev cX1_sum : ByteArray := prog_1_method_35_code
def yX1_sum : MethodName := ⟨RX1, "sum", "(II)J"⟩
def dkwX1_sum_2 : List UInt8 := [133, 167, 0, 4, 9, 97, 55, 4, 132, 6, 1, 167, 255, 210, 22, 4, 173]
abbrev dktX1_sum_2 : List UInt8 := dkwX1_sum_2 ++ []
def dkwX1_sum_1 : List UInt8 := [45, 180, 0, 183, 21, 6, 50, 180, 1, 20, 5, 160, 0, 17, 45, 180, 0, 183, 21, 6, 50, 182, 1, 24]
abbrev dktX1_sum_1 : List UInt8 := dkwX1_sum_1 ++ dktX1_sum_2
def dkwX1_sum_0 : List UInt8 := [42, 27, 28, 182, 0, 253, 78, 9, 55, 4, 3, 54, 6, 21, 6, 45, 180, 1, 15, 162, 0, 43, 22, 4]
abbrev dktX1_sum_0 : List UInt8 := dkwX1_sum_0 ++ dktX1_sum_1
theorem dksX1_sum_0 : cX1_sum.data.toList.drop 0 = dktX1_sum_0 := by decide +kernel
theorem dksX1_sum_1 : cX1_sum.data.toList.drop 24 = dktX1_sum_1 := dk_seg dksX1_sum_0 24 rfl rfl
theorem dksX1_sum_2 : cX1_sum.data.toList.drop 48 = dktX1_sum_2 := dk_seg dksX1_sum_1 24 rfl rfl
theorem dX1_sum_0 : decode cX1_sum 0 = .ok (.aload_n 0, 1) := dk_42 (dk_at dksX1_sum_0 0 rfl rfl)
theorem dX1_sum_1 : decode cX1_sum 1 = .ok (.iload_n 1, 1) := dk_27 (dk_at dksX1_sum_0 1 rfl rfl)
theorem dX1_sum_2 : decode cX1_sum 2 = .ok (.iload_n 2, 1) := dk_28 (dk_at dksX1_sum_0 2 rfl rfl)
theorem dX1_sum_3 : decode cX1_sum 3 = .ok (.invokevirtual 253, 3) := dk_182 0 253 (dk_at dksX1_sum_0 3 rfl rfl)
theorem dX1_sum_6 : decode cX1_sum 6 = .ok (.astore_n 3, 1) := dk_78 (dk_at dksX1_sum_0 6 rfl rfl)
theorem dX1_sum_7 : decode cX1_sum 7 = .ok (.lconst 0, 1) := dk_9 (dk_at dksX1_sum_0 7 rfl rfl)
theorem dX1_sum_8 : decode cX1_sum 8 = .ok (.lstore 4, 2) := dk_55 4 (dk_at dksX1_sum_0 8 rfl rfl)
theorem dX1_sum_10 : decode cX1_sum 10 = .ok (.iconst 0, 1) := dk_3 (dk_at dksX1_sum_0 10 rfl rfl)
theorem dX1_sum_11 : decode cX1_sum 11 = .ok (.istore 6, 2) := dk_54 6 (dk_at dksX1_sum_0 11 rfl rfl)
theorem dX1_sum_13 : decode cX1_sum 13 = .ok (.iload 6, 2) := dk_21 6 (dk_at dksX1_sum_0 13 rfl rfl)
theorem dX1_sum_15 : decode cX1_sum 15 = .ok (.aload_n 3, 1) := dk_45 (dk_at dksX1_sum_0 15 rfl rfl)
theorem dX1_sum_16 : decode cX1_sum 16 = .ok (.getfield 271, 3) := dk_180 1 15 (dk_at dksX1_sum_0 16 rfl rfl)
theorem dX1_sum_19 : decode cX1_sum 19 = .ok (.if_icmp .ge 43, 3) := dk_162 0 43 (dk_at dksX1_sum_0 19 rfl rfl)
theorem dX1_sum_22 : decode cX1_sum 22 = .ok (.lload 4, 2) := dk_22 4 (dk_at dksX1_sum_0 22 rfl rfl)
theorem dX1_sum_24 : decode cX1_sum 24 = .ok (.aload_n 3, 1) := dk_45 (dk_at dksX1_sum_1 0 rfl rfl)
theorem dX1_sum_25 : decode cX1_sum 25 = .ok (.getfield 183, 3) := dk_180 0 183 (dk_at dksX1_sum_1 1 rfl rfl)
theorem dX1_sum_28 : decode cX1_sum 28 = .ok (.iload 6, 2) := dk_21 6 (dk_at dksX1_sum_1 4 rfl rfl)
theorem dX1_sum_30 : decode cX1_sum 30 = .ok (.aaload, 1) := dk_50 (dk_at dksX1_sum_1 6 rfl rfl)
theorem dX1_sum_31 : decode cX1_sum 31 = .ok (.getfield 276, 3) := dk_180 1 20 (dk_at dksX1_sum_1 7 rfl rfl)
theorem dX1_sum_34 : decode cX1_sum 34 = .ok (.iconst 2, 1) := dk_5 (dk_at dksX1_sum_1 10 rfl rfl)
theorem dX1_sum_35 : decode cX1_sum 35 = .ok (.if_icmp .ne 17, 3) := dk_160 0 17 (dk_at dksX1_sum_1 11 rfl rfl)
theorem dX1_sum_38 : decode cX1_sum 38 = .ok (.aload_n 3, 1) := dk_45 (dk_at dksX1_sum_1 14 rfl rfl)
theorem dX1_sum_39 : decode cX1_sum 39 = .ok (.getfield 183, 3) := dk_180 0 183 (dk_at dksX1_sum_1 15 rfl rfl)
theorem dX1_sum_42 : decode cX1_sum 42 = .ok (.iload 6, 2) := dk_21 6 (dk_at dksX1_sum_1 18 rfl rfl)
theorem dX1_sum_44 : decode cX1_sum 44 = .ok (.aaload, 1) := dk_50 (dk_at dksX1_sum_1 20 rfl rfl)
theorem dX1_sum_45 : decode cX1_sum 45 = .ok (.invokevirtual 280, 3) := dk_182 1 24 (dk_at dksX1_sum_1 21 rfl rfl)
theorem dX1_sum_48 : decode cX1_sum 48 = .ok (.i2l, 1) := dk_133 (dk_at dksX1_sum_2 0 rfl rfl)
theorem dX1_sum_49 : decode cX1_sum 49 = .ok (.goto 4, 3) := dk_167 0 4 (dk_at dksX1_sum_2 1 rfl rfl)
theorem dX1_sum_52 : decode cX1_sum 52 = .ok (.lconst 0, 1) := dk_9 (dk_at dksX1_sum_2 4 rfl rfl)
theorem dX1_sum_53 : decode cX1_sum 53 = .ok (.ladd, 1) := dk_97 (dk_at dksX1_sum_2 5 rfl rfl)
theorem dX1_sum_54 : decode cX1_sum 54 = .ok (.lstore 4, 2) := dk_55 4 (dk_at dksX1_sum_2 6 rfl rfl)
theorem dX1_sum_56 : decode cX1_sum 56 = .ok (.iinc 6 1, 3) := dk_132 6 1 (dk_at dksX1_sum_2 8 rfl rfl)
theorem dX1_sum_59 : decode cX1_sum 59 = .ok (.goto (-46), 3) := dk_167 255 210 (dk_at dksX1_sum_2 11 rfl rfl)
theorem dX1_sum_62 : decode cX1_sum 62 = .ok (.lload 4, 2) := dk_22 4 (dk_at dksX1_sum_2 14 rfl rfl)
theorem dX1_sum_64 : decode cX1_sum 64 = .ok (.lreturn, 1) := dk_173 (dk_at dksX1_sum_2 16 rfl rfl)
abbrev cX1_ratio : ByteArray := prog_1_method_36_code
def yX1_ratio : MethodName := ⟨RX1, "ratio", "()D"⟩
def dkwX1_ratio_1 : List UInt8 := [180, 0, 39, 182, 0, 138, 135, 42, 180, 0, 39, 182, 0, 141, 135, 111, 175]
abbrev dktX1_ratio_1 : List UInt8 := dkwX1_ratio_1 ++ []
def dkwX1_ratio_0 : List UInt8 := [42, 180, 0, 39, 180, 0, 80, 182, 1, 27, 153, 0, 11, 187, 1, 30, 89, 183, 1, 32, 191, 42]
abbrev dktX1_ratio_0 : List UInt8 := dkwX1_ratio_0 ++ dktX1_ratio_1
theorem dksX1_ratio_0 : cX1_ratio.data.toList.drop 0 = dktX1_ratio_0 := by decide +kernel
theorem dksX1_ratio_1 : cX1_ratio.data.toList.drop 22 = dktX1_ratio_1 := dk_seg dksX1_ratio_0 22 rfl rfl
theorem dX1_ratio_0 : decode cX1_ratio 0 = .ok (.aload_n 0, 1) := dk_42 (dk_at dksX1_ratio_0 0 rfl rfl)
theorem dX1_ratio_1 : decode cX1_ratio 1 = .ok (.getfield 39, 3) := dk_180 0 39 (dk_at dksX1_ratio_0 1 rfl rfl)
theorem dX1_ratio_4 : decode cX1_ratio 4 = .ok (.getfield 80, 3) := dk_180 0 80 (dk_at dksX1_ratio_0 4 rfl rfl)
theorem dX1_ratio_7 : decode cX1_ratio 7 = .ok (.invokevirtual 283, 3) := dk_182 1 27 (dk_at dksX1_ratio_0 7 rfl rfl)
theorem dX1_ratio_10 : decode cX1_ratio 10 = .ok (.ifCond .eq 11, 3) := dk_153 0 11 (dk_at dksX1_ratio_0 10 rfl rfl)
theorem dX1_ratio_13 : decode cX1_ratio 13 = .ok (.new 286, 3) := dk_187 1 30 (dk_at dksX1_ratio_0 13 rfl rfl)
theorem dX1_ratio_16 : decode cX1_ratio 16 = .ok (.dup, 1) := dk_89 (dk_at dksX1_ratio_0 16 rfl rfl)
theorem dX1_ratio_17 : decode cX1_ratio 17 = .ok (.invokespecial 288, 3) := dk_183 1 32 (dk_at dksX1_ratio_0 17 rfl rfl)
theorem dX1_ratio_20 : decode cX1_ratio 20 = .ok (.athrow, 1) := dk_191 (dk_at dksX1_ratio_0 20 rfl rfl)
theorem dX1_ratio_21 : decode cX1_ratio 21 = .ok (.aload_n 0, 1) := dk_42 (dk_at dksX1_ratio_0 21 rfl rfl)
theorem dX1_ratio_22 : decode cX1_ratio 22 = .ok (.getfield 39, 3) := dk_180 0 39 (dk_at dksX1_ratio_1 0 rfl rfl)
theorem dX1_ratio_25 : decode cX1_ratio 25 = .ok (.invokevirtual 138, 3) := dk_182 0 138 (dk_at dksX1_ratio_1 3 rfl rfl)
theorem dX1_ratio_28 : decode cX1_ratio 28 = .ok (.i2d, 1) := dk_135 (dk_at dksX1_ratio_1 6 rfl rfl)
theorem dX1_ratio_29 : decode cX1_ratio 29 = .ok (.aload_n 0, 1) := dk_42 (dk_at dksX1_ratio_1 7 rfl rfl)
theorem dX1_ratio_30 : decode cX1_ratio 30 = .ok (.getfield 39, 3) := dk_180 0 39 (dk_at dksX1_ratio_1 8 rfl rfl)
theorem dX1_ratio_33 : decode cX1_ratio 33 = .ok (.invokevirtual 141, 3) := dk_182 0 141 (dk_at dksX1_ratio_1 11 rfl rfl)
theorem dX1_ratio_36 : decode cX1_ratio 36 = .ok (.i2d, 1) := dk_135 (dk_at dksX1_ratio_1 14 rfl rfl)
theorem dX1_ratio_37 : decode cX1_ratio 37 = .ok (.ddiv, 1) := dk_111 (dk_at dksX1_ratio_1 15 rfl rfl)
theorem dX1_ratio_38 : decode cX1_ratio 38 = .ok (.dreturn, 1) := dk_175 (dk_at dksX1_ratio_1 16 rfl rfl)
abbrev cX1_hit : ByteArray := prog_1_method_41_code
def yX1_hit : MethodName := ⟨RX1, "hit", "(I)I"⟩
def dkwX1_hit_2 : List UInt8 := [132, 3, 1, 167, 255, 223, 29, 172]
abbrev dktX1_hit_2 : List UInt8 := dkwX1_hit_2 ++ []
def dkwX1_hit_1 : List UInt8 := [182, 1, 42, 154, 0, 26, 28, 42, 29, 2, 182, 1, 42, 153, 0, 7, 4, 167, 0, 4, 3, 100, 61]
abbrev dktX1_hit_1 : List UInt8 := dkwX1_hit_1 ++ dktX1_hit_2
def dkwX1_hit_0 : List UInt8 := [42, 182, 1, 63, 27, 42, 2, 182, 1, 55, 184, 0, 25, 27, 61, 3, 62, 28, 157, 0, 12, 42, 29, 2]
abbrev dktX1_hit_0 : List UInt8 := dkwX1_hit_0 ++ dktX1_hit_1
theorem dksX1_hit_0 : cX1_hit.data.toList.drop 0 = dktX1_hit_0 := by decide +kernel
theorem dksX1_hit_1 : cX1_hit.data.toList.drop 24 = dktX1_hit_1 := dk_seg dksX1_hit_0 24 rfl rfl
theorem dksX1_hit_2 : cX1_hit.data.toList.drop 47 = dktX1_hit_2 := dk_seg dksX1_hit_1 23 rfl rfl
theorem dX1_hit_0 : decode cX1_hit 0 = .ok (.aload_n 0, 1) := dk_42 (dk_at dksX1_hit_0 0 rfl rfl)
theorem dX1_hit_1 : decode cX1_hit 1 = .ok (.invokevirtual 319, 3) := dk_182 1 63 (dk_at dksX1_hit_0 1 rfl rfl)
theorem dX1_hit_4 : decode cX1_hit 4 = .ok (.iload_n 1, 1) := dk_27 (dk_at dksX1_hit_0 4 rfl rfl)
theorem dX1_hit_5 : decode cX1_hit 5 = .ok (.aload_n 0, 1) := dk_42 (dk_at dksX1_hit_0 5 rfl rfl)
theorem dX1_hit_6 : decode cX1_hit 6 = .ok (.iconst (-1), 1) := dk_2 (dk_at dksX1_hit_0 6 rfl rfl)
theorem dX1_hit_7 : decode cX1_hit 7 = .ok (.invokevirtual 311, 3) := dk_182 1 55 (dk_at dksX1_hit_0 7 rfl rfl)
theorem dX1_hit_10 : decode cX1_hit 10 = .ok (.invokestatic 25, 3) := dk_184 0 25 (dk_at dksX1_hit_0 10 rfl rfl)
theorem dX1_hit_13 : decode cX1_hit 13 = .ok (.iload_n 1, 1) := dk_27 (dk_at dksX1_hit_0 13 rfl rfl)
theorem dX1_hit_14 : decode cX1_hit 14 = .ok (.istore_n 2, 1) := dk_61 (dk_at dksX1_hit_0 14 rfl rfl)
theorem dX1_hit_15 : decode cX1_hit 15 = .ok (.iconst 0, 1) := dk_3 (dk_at dksX1_hit_0 15 rfl rfl)
theorem dX1_hit_16 : decode cX1_hit 16 = .ok (.istore_n 3, 1) := dk_62 (dk_at dksX1_hit_0 16 rfl rfl)
theorem dX1_hit_17 : decode cX1_hit 17 = .ok (.iload_n 2, 1) := dk_28 (dk_at dksX1_hit_0 17 rfl rfl)
theorem dX1_hit_18 : decode cX1_hit 18 = .ok (.ifCond .gt 12, 3) := dk_157 0 12 (dk_at dksX1_hit_0 18 rfl rfl)
theorem dX1_hit_21 : decode cX1_hit 21 = .ok (.aload_n 0, 1) := dk_42 (dk_at dksX1_hit_0 21 rfl rfl)
theorem dX1_hit_22 : decode cX1_hit 22 = .ok (.iload_n 3, 1) := dk_29 (dk_at dksX1_hit_0 22 rfl rfl)
theorem dX1_hit_23 : decode cX1_hit 23 = .ok (.iconst (-1), 1) := dk_2 (dk_at dksX1_hit_0 23 rfl rfl)
theorem dX1_hit_24 : decode cX1_hit 24 = .ok (.invokevirtual 298, 3) := dk_182 1 42 (dk_at dksX1_hit_1 0 rfl rfl)
theorem dX1_hit_27 : decode cX1_hit 27 = .ok (.ifCond .ne 26, 3) := dk_154 0 26 (dk_at dksX1_hit_1 3 rfl rfl)
theorem dX1_hit_30 : decode cX1_hit 30 = .ok (.iload_n 2, 1) := dk_28 (dk_at dksX1_hit_1 6 rfl rfl)
theorem dX1_hit_31 : decode cX1_hit 31 = .ok (.aload_n 0, 1) := dk_42 (dk_at dksX1_hit_1 7 rfl rfl)
theorem dX1_hit_32 : decode cX1_hit 32 = .ok (.iload_n 3, 1) := dk_29 (dk_at dksX1_hit_1 8 rfl rfl)
theorem dX1_hit_33 : decode cX1_hit 33 = .ok (.iconst (-1), 1) := dk_2 (dk_at dksX1_hit_1 9 rfl rfl)
theorem dX1_hit_34 : decode cX1_hit 34 = .ok (.invokevirtual 298, 3) := dk_182 1 42 (dk_at dksX1_hit_1 10 rfl rfl)
theorem dX1_hit_37 : decode cX1_hit 37 = .ok (.ifCond .eq 7, 3) := dk_153 0 7 (dk_at dksX1_hit_1 13 rfl rfl)
theorem dX1_hit_40 : decode cX1_hit 40 = .ok (.iconst 1, 1) := dk_4 (dk_at dksX1_hit_1 16 rfl rfl)
theorem dX1_hit_41 : decode cX1_hit 41 = .ok (.goto 4, 3) := dk_167 0 4 (dk_at dksX1_hit_1 17 rfl rfl)
theorem dX1_hit_44 : decode cX1_hit 44 = .ok (.iconst 0, 1) := dk_3 (dk_at dksX1_hit_1 20 rfl rfl)
theorem dX1_hit_45 : decode cX1_hit 45 = .ok (.isub, 1) := dk_100 (dk_at dksX1_hit_1 21 rfl rfl)
theorem dX1_hit_46 : decode cX1_hit 46 = .ok (.istore_n 2, 1) := dk_61 (dk_at dksX1_hit_1 22 rfl rfl)
theorem dX1_hit_47 : decode cX1_hit 47 = .ok (.iinc 3 1, 3) := dk_132 3 1 (dk_at dksX1_hit_2 0 rfl rfl)
theorem dX1_hit_50 : decode cX1_hit 50 = .ok (.goto (-33), 3) := dk_167 255 223 (dk_at dksX1_hit_2 3 rfl rfl)
theorem dX1_hit_53 : decode cX1_hit 53 = .ok (.iload_n 3, 1) := dk_29 (dk_at dksX1_hit_2 6 rfl rfl)
theorem dX1_hit_54 : decode cX1_hit 54 = .ok (.ireturn, 1) := dk_172 (dk_at dksX1_hit_2 7 rfl rfl)
abbrev cX1_checkQuery : ByteArray := prog_1_method_40_code
def yX1_checkQuery : MethodName := ⟨RX1, "checkQuery", "()V"⟩
def dkwX1_checkQuery_0 : List UInt8 := [42, 180, 1, 33, 199, 0, 11, 187, 1, 21, 89, 183, 1, 23, 191, 177]
abbrev dktX1_checkQuery_0 : List UInt8 := dkwX1_checkQuery_0 ++ []
theorem dksX1_checkQuery_0 : cX1_checkQuery.data.toList.drop 0 = dktX1_checkQuery_0 := by decide +kernel
theorem dX1_checkQuery_0 : decode cX1_checkQuery 0 = .ok (.aload_n 0, 1) := dk_42 (dk_at dksX1_checkQuery_0 0 rfl rfl)
theorem dX1_checkQuery_1 : decode cX1_checkQuery 1 = .ok (.getfield 289, 3) := dk_180 1 33 (dk_at dksX1_checkQuery_0 1 rfl rfl)
theorem dX1_checkQuery_4 : decode cX1_checkQuery 4 = .ok (.ifnonnull 11, 3) := dk_199 0 11 (dk_at dksX1_checkQuery_0 4 rfl rfl)
theorem dX1_checkQuery_7 : decode cX1_checkQuery 7 = .ok (.new 277, 3) := dk_187 1 21 (dk_at dksX1_checkQuery_0 7 rfl rfl)
theorem dX1_checkQuery_10 : decode cX1_checkQuery 10 = .ok (.dup, 1) := dk_89 (dk_at dksX1_checkQuery_0 10 rfl rfl)
theorem dX1_checkQuery_11 : decode cX1_checkQuery 11 = .ok (.invokespecial 279, 3) := dk_183 1 23 (dk_at dksX1_checkQuery_0 11 rfl rfl)
theorem dX1_checkQuery_14 : decode cX1_checkQuery 14 = .ok (.athrow, 1) := dk_191 (dk_at dksX1_checkQuery_0 14 rfl rfl)
theorem dX1_checkQuery_15 : decode cX1_checkQuery 15 = .ok (.return_, 1) := dk_177 (dk_at dksX1_checkQuery_0 15 rfl rfl)
abbrev cX1_excluded : ByteArray := prog_1_method_42_code
def yX1_excluded : MethodName := ⟨RX1, "excluded", "(I)I"⟩
def dkwX1_excluded_1 : List UInt8 := [89, 183, 1, 23, 191, 42, 27, 182, 1, 55, 42, 2, 182, 1, 55, 100, 172]
abbrev dktX1_excluded_1 : List UInt8 := dkwX1_excluded_1 ++ []
def dkwX1_excluded_0 : List UInt8 := [42, 182, 1, 63, 27, 3, 42, 180, 1, 33, 182, 0, 54, 4, 100, 184, 0, 10, 154, 0, 11, 187, 1, 21]
abbrev dktX1_excluded_0 : List UInt8 := dkwX1_excluded_0 ++ dktX1_excluded_1
theorem dksX1_excluded_0 : cX1_excluded.data.toList.drop 0 = dktX1_excluded_0 := by decide +kernel
theorem dksX1_excluded_1 : cX1_excluded.data.toList.drop 24 = dktX1_excluded_1 := dk_seg dksX1_excluded_0 24 rfl rfl
theorem dX1_excluded_0 : decode cX1_excluded 0 = .ok (.aload_n 0, 1) := dk_42 (dk_at dksX1_excluded_0 0 rfl rfl)
theorem dX1_excluded_1 : decode cX1_excluded 1 = .ok (.invokevirtual 319, 3) := dk_182 1 63 (dk_at dksX1_excluded_0 1 rfl rfl)
theorem dX1_excluded_4 : decode cX1_excluded 4 = .ok (.iload_n 1, 1) := dk_27 (dk_at dksX1_excluded_0 4 rfl rfl)
theorem dX1_excluded_5 : decode cX1_excluded 5 = .ok (.iconst 0, 1) := dk_3 (dk_at dksX1_excluded_0 5 rfl rfl)
theorem dX1_excluded_6 : decode cX1_excluded 6 = .ok (.aload_n 0, 1) := dk_42 (dk_at dksX1_excluded_0 6 rfl rfl)
theorem dX1_excluded_7 : decode cX1_excluded 7 = .ok (.getfield 289, 3) := dk_180 1 33 (dk_at dksX1_excluded_0 7 rfl rfl)
theorem dX1_excluded_10 : decode cX1_excluded 10 = .ok (.invokevirtual 54, 3) := dk_182 0 54 (dk_at dksX1_excluded_0 10 rfl rfl)
theorem dX1_excluded_13 : decode cX1_excluded 13 = .ok (.iconst 1, 1) := dk_4 (dk_at dksX1_excluded_0 13 rfl rfl)
theorem dX1_excluded_14 : decode cX1_excluded 14 = .ok (.isub, 1) := dk_100 (dk_at dksX1_excluded_0 14 rfl rfl)
theorem dX1_excluded_15 : decode cX1_excluded 15 = .ok (.invokestatic 10, 3) := dk_184 0 10 (dk_at dksX1_excluded_0 15 rfl rfl)
theorem dX1_excluded_18 : decode cX1_excluded 18 = .ok (.ifCond .ne 11, 3) := dk_154 0 11 (dk_at dksX1_excluded_0 18 rfl rfl)
theorem dX1_excluded_21 : decode cX1_excluded 21 = .ok (.new 277, 3) := dk_187 1 21 (dk_at dksX1_excluded_0 21 rfl rfl)
theorem dX1_excluded_24 : decode cX1_excluded 24 = .ok (.dup, 1) := dk_89 (dk_at dksX1_excluded_1 0 rfl rfl)
theorem dX1_excluded_25 : decode cX1_excluded 25 = .ok (.invokespecial 279, 3) := dk_183 1 23 (dk_at dksX1_excluded_1 1 rfl rfl)
theorem dX1_excluded_28 : decode cX1_excluded 28 = .ok (.athrow, 1) := dk_191 (dk_at dksX1_excluded_1 4 rfl rfl)
theorem dX1_excluded_29 : decode cX1_excluded 29 = .ok (.aload_n 0, 1) := dk_42 (dk_at dksX1_excluded_1 5 rfl rfl)
theorem dX1_excluded_30 : decode cX1_excluded 30 = .ok (.iload_n 1, 1) := dk_27 (dk_at dksX1_excluded_1 6 rfl rfl)
theorem dX1_excluded_31 : decode cX1_excluded 31 = .ok (.invokevirtual 311, 3) := dk_182 1 55 (dk_at dksX1_excluded_1 7 rfl rfl)
theorem dX1_excluded_34 : decode cX1_excluded 34 = .ok (.aload_n 0, 1) := dk_42 (dk_at dksX1_excluded_1 10 rfl rfl)
theorem dX1_excluded_35 : decode cX1_excluded 35 = .ok (.iconst (-1), 1) := dk_2 (dk_at dksX1_excluded_1 11 rfl rfl)
theorem dX1_excluded_36 : decode cX1_excluded 36 = .ok (.invokevirtual 311, 3) := dk_182 1 55 (dk_at dksX1_excluded_1 12 rfl rfl)
theorem dX1_excluded_39 : decode cX1_excluded 39 = .ok (.isub, 1) := dk_100 (dk_at dksX1_excluded_1 15 rfl rfl)
theorem dX1_excluded_40 : decode cX1_excluded 40 = .ok (.ireturn, 1) := dk_172 (dk_at dksX1_excluded_1 16 rfl rfl)
abbrev cX1_report : ByteArray := prog_1_method_43_code
def yX1_report : MethodName := ⟨RX1, "report", "(II)I"⟩
def dkwX1_report_2 : List UInt8 := [182, 1, 69, 172]
abbrev dktX1_report_2 : List UInt8 := dkwX1_report_2 ++ []
def dkwX1_report_1 : List UInt8 := [45, 199, 0, 11, 187, 1, 21, 89, 183, 1, 23, 191, 28, 3, 4, 184, 0, 10, 184, 0, 102, 45, 28]
abbrev dktX1_report_1 : List UInt8 := dkwX1_report_1 ++ dktX1_report_2
def dkwX1_report_0 : List UInt8 := [42, 180, 0, 125, 198, 0, 7, 27, 156, 0, 7, 1, 167, 0, 11, 42, 180, 0, 125, 27, 182, 1, 66, 78]
abbrev dktX1_report_0 : List UInt8 := dkwX1_report_0 ++ dktX1_report_1
theorem dksX1_report_0 : cX1_report.data.toList.drop 0 = dktX1_report_0 := by decide +kernel
theorem dksX1_report_1 : cX1_report.data.toList.drop 24 = dktX1_report_1 := dk_seg dksX1_report_0 24 rfl rfl
theorem dksX1_report_2 : cX1_report.data.toList.drop 47 = dktX1_report_2 := dk_seg dksX1_report_1 23 rfl rfl
theorem dX1_report_0 : decode cX1_report 0 = .ok (.aload_n 0, 1) := dk_42 (dk_at dksX1_report_0 0 rfl rfl)
theorem dX1_report_1 : decode cX1_report 1 = .ok (.getfield 125, 3) := dk_180 0 125 (dk_at dksX1_report_0 1 rfl rfl)
theorem dX1_report_4 : decode cX1_report 4 = .ok (.ifnull 7, 3) := dk_198 0 7 (dk_at dksX1_report_0 4 rfl rfl)
theorem dX1_report_7 : decode cX1_report 7 = .ok (.iload_n 1, 1) := dk_27 (dk_at dksX1_report_0 7 rfl rfl)
theorem dX1_report_8 : decode cX1_report 8 = .ok (.ifCond .ge 7, 3) := dk_156 0 7 (dk_at dksX1_report_0 8 rfl rfl)
theorem dX1_report_11 : decode cX1_report 11 = .ok (.aconst_null, 1) := dk_1 (dk_at dksX1_report_0 11 rfl rfl)
theorem dX1_report_12 : decode cX1_report 12 = .ok (.goto 11, 3) := dk_167 0 11 (dk_at dksX1_report_0 12 rfl rfl)
theorem dX1_report_15 : decode cX1_report 15 = .ok (.aload_n 0, 1) := dk_42 (dk_at dksX1_report_0 15 rfl rfl)
theorem dX1_report_16 : decode cX1_report 16 = .ok (.getfield 125, 3) := dk_180 0 125 (dk_at dksX1_report_0 16 rfl rfl)
theorem dX1_report_19 : decode cX1_report 19 = .ok (.iload_n 1, 1) := dk_27 (dk_at dksX1_report_0 19 rfl rfl)
theorem dX1_report_20 : decode cX1_report 20 = .ok (.invokevirtual 322, 3) := dk_182 1 66 (dk_at dksX1_report_0 20 rfl rfl)
theorem dX1_report_23 : decode cX1_report 23 = .ok (.astore_n 3, 1) := dk_78 (dk_at dksX1_report_0 23 rfl rfl)
theorem dX1_report_24 : decode cX1_report 24 = .ok (.aload_n 3, 1) := dk_45 (dk_at dksX1_report_1 0 rfl rfl)
theorem dX1_report_25 : decode cX1_report 25 = .ok (.ifnonnull 11, 3) := dk_199 0 11 (dk_at dksX1_report_1 1 rfl rfl)
theorem dX1_report_28 : decode cX1_report 28 = .ok (.new 277, 3) := dk_187 1 21 (dk_at dksX1_report_1 4 rfl rfl)
theorem dX1_report_31 : decode cX1_report 31 = .ok (.dup, 1) := dk_89 (dk_at dksX1_report_1 7 rfl rfl)
theorem dX1_report_32 : decode cX1_report 32 = .ok (.invokespecial 279, 3) := dk_183 1 23 (dk_at dksX1_report_1 8 rfl rfl)
theorem dX1_report_35 : decode cX1_report 35 = .ok (.athrow, 1) := dk_191 (dk_at dksX1_report_1 11 rfl rfl)
theorem dX1_report_36 : decode cX1_report 36 = .ok (.iload_n 2, 1) := dk_28 (dk_at dksX1_report_1 12 rfl rfl)
theorem dX1_report_37 : decode cX1_report 37 = .ok (.iconst 0, 1) := dk_3 (dk_at dksX1_report_1 13 rfl rfl)
theorem dX1_report_38 : decode cX1_report 38 = .ok (.iconst 1, 1) := dk_4 (dk_at dksX1_report_1 14 rfl rfl)
theorem dX1_report_39 : decode cX1_report 39 = .ok (.invokestatic 10, 3) := dk_184 0 10 (dk_at dksX1_report_1 15 rfl rfl)
theorem dX1_report_42 : decode cX1_report 42 = .ok (.invokestatic 102, 3) := dk_184 0 102 (dk_at dksX1_report_1 18 rfl rfl)
theorem dX1_report_45 : decode cX1_report 45 = .ok (.aload_n 3, 1) := dk_45 (dk_at dksX1_report_1 21 rfl rfl)
theorem dX1_report_46 : decode cX1_report 46 = .ok (.iload_n 2, 1) := dk_28 (dk_at dksX1_report_1 22 rfl rfl)
theorem dX1_report_47 : decode cX1_report 47 = .ok (.invokevirtual 325, 3) := dk_182 1 69 (dk_at dksX1_report_2 0 rfl rfl)
theorem dX1_report_50 : decode cX1_report 50 = .ok (.ireturn, 1) := dk_172 (dk_at dksX1_report_2 3 rfl rfl)
abbrev cX1_undo : ByteArray := prog_1_method_44_code
def yX1_undo : MethodName := ⟨RX1, "undo", "()I"⟩
def dkwX1_undo_2 : List UInt8 := [172]
abbrev dktX1_undo_2 : List UInt8 := dkwX1_undo_2 ++ []
def dkwX1_undo_1 : List UInt8 := [180, 0, 46, 182, 0, 54, 4, 100, 182, 0, 57, 192, 0, 36, 181, 0, 39, 42, 180, 0, 46, 182, 0, 54]
abbrev dktX1_undo_1 : List UInt8 := dkwX1_undo_1 ++ dktX1_undo_2
def dkwX1_undo_0 : List UInt8 := [42, 180, 0, 46, 182, 1, 27, 154, 0, 7, 4, 167, 0, 4, 3, 184, 0, 94, 42, 42, 180, 0, 46, 42]
abbrev dktX1_undo_0 : List UInt8 := dkwX1_undo_0 ++ dktX1_undo_1
theorem dksX1_undo_0 : cX1_undo.data.toList.drop 0 = dktX1_undo_0 := by decide +kernel
theorem dksX1_undo_1 : cX1_undo.data.toList.drop 24 = dktX1_undo_1 := dk_seg dksX1_undo_0 24 rfl rfl
theorem dksX1_undo_2 : cX1_undo.data.toList.drop 48 = dktX1_undo_2 := dk_seg dksX1_undo_1 24 rfl rfl
theorem dX1_undo_0 : decode cX1_undo 0 = .ok (.aload_n 0, 1) := dk_42 (dk_at dksX1_undo_0 0 rfl rfl)
theorem dX1_undo_1 : decode cX1_undo 1 = .ok (.getfield 46, 3) := dk_180 0 46 (dk_at dksX1_undo_0 1 rfl rfl)
theorem dX1_undo_4 : decode cX1_undo 4 = .ok (.invokevirtual 283, 3) := dk_182 1 27 (dk_at dksX1_undo_0 4 rfl rfl)
theorem dX1_undo_7 : decode cX1_undo 7 = .ok (.ifCond .ne 7, 3) := dk_154 0 7 (dk_at dksX1_undo_0 7 rfl rfl)
theorem dX1_undo_10 : decode cX1_undo 10 = .ok (.iconst 1, 1) := dk_4 (dk_at dksX1_undo_0 10 rfl rfl)
theorem dX1_undo_11 : decode cX1_undo 11 = .ok (.goto 4, 3) := dk_167 0 4 (dk_at dksX1_undo_0 11 rfl rfl)
theorem dX1_undo_14 : decode cX1_undo 14 = .ok (.iconst 0, 1) := dk_3 (dk_at dksX1_undo_0 14 rfl rfl)
theorem dX1_undo_15 : decode cX1_undo 15 = .ok (.invokestatic 94, 3) := dk_184 0 94 (dk_at dksX1_undo_0 15 rfl rfl)
theorem dX1_undo_18 : decode cX1_undo 18 = .ok (.aload_n 0, 1) := dk_42 (dk_at dksX1_undo_0 18 rfl rfl)
theorem dX1_undo_19 : decode cX1_undo 19 = .ok (.aload_n 0, 1) := dk_42 (dk_at dksX1_undo_0 19 rfl rfl)
theorem dX1_undo_20 : decode cX1_undo 20 = .ok (.getfield 46, 3) := dk_180 0 46 (dk_at dksX1_undo_0 20 rfl rfl)
theorem dX1_undo_23 : decode cX1_undo 23 = .ok (.aload_n 0, 1) := dk_42 (dk_at dksX1_undo_0 23 rfl rfl)
theorem dX1_undo_24 : decode cX1_undo 24 = .ok (.getfield 46, 3) := dk_180 0 46 (dk_at dksX1_undo_1 0 rfl rfl)
theorem dX1_undo_27 : decode cX1_undo 27 = .ok (.invokevirtual 54, 3) := dk_182 0 54 (dk_at dksX1_undo_1 3 rfl rfl)
theorem dX1_undo_30 : decode cX1_undo 30 = .ok (.iconst 1, 1) := dk_4 (dk_at dksX1_undo_1 6 rfl rfl)
theorem dX1_undo_31 : decode cX1_undo 31 = .ok (.isub, 1) := dk_100 (dk_at dksX1_undo_1 7 rfl rfl)
theorem dX1_undo_32 : decode cX1_undo 32 = .ok (.invokevirtual 57, 3) := dk_182 0 57 (dk_at dksX1_undo_1 8 rfl rfl)
theorem dX1_undo_35 : decode cX1_undo 35 = .ok (.checkcast 36, 3) := dk_192 0 36 (dk_at dksX1_undo_1 11 rfl rfl)
theorem dX1_undo_38 : decode cX1_undo 38 = .ok (.putfield 39, 3) := dk_181 0 39 (dk_at dksX1_undo_1 14 rfl rfl)
theorem dX1_undo_41 : decode cX1_undo 41 = .ok (.aload_n 0, 1) := dk_42 (dk_at dksX1_undo_1 17 rfl rfl)
theorem dX1_undo_42 : decode cX1_undo 42 = .ok (.getfield 46, 3) := dk_180 0 46 (dk_at dksX1_undo_1 18 rfl rfl)
theorem dX1_undo_45 : decode cX1_undo 45 = .ok (.invokevirtual 54, 3) := dk_182 0 54 (dk_at dksX1_undo_1 21 rfl rfl)
theorem dX1_undo_48 : decode cX1_undo 48 = .ok (.ireturn, 1) := dk_172 (dk_at dksX1_undo_2 0 rfl rfl)
abbrev cX1_restore : ByteArray := prog_1_method_46_code
def yX1_restore : MethodName := ⟨RX1, "restore", "()I"⟩
def dkwX1_restore_1 : List UInt8 := [183, 0, 105, 181, 0, 39, 42, 180, 0, 46, 182, 1, 75, 42, 180, 0, 39, 180, 0, 80, 182, 0, 54, 172]
abbrev dktX1_restore_1 : List UInt8 := dkwX1_restore_1 ++ []
def dkwX1_restore_0 : List UInt8 := [42, 180, 1, 72, 198, 0, 7, 4, 167, 0, 4, 3, 184, 0, 94, 42, 187, 0, 36, 89, 42, 180, 1, 72]
abbrev dktX1_restore_0 : List UInt8 := dkwX1_restore_0 ++ dktX1_restore_1
theorem dksX1_restore_0 : cX1_restore.data.toList.drop 0 = dktX1_restore_0 := by decide +kernel
theorem dksX1_restore_1 : cX1_restore.data.toList.drop 24 = dktX1_restore_1 := dk_seg dksX1_restore_0 24 rfl rfl
theorem dX1_restore_0 : decode cX1_restore 0 = .ok (.aload_n 0, 1) := dk_42 (dk_at dksX1_restore_0 0 rfl rfl)
theorem dX1_restore_1 : decode cX1_restore 1 = .ok (.getfield 328, 3) := dk_180 1 72 (dk_at dksX1_restore_0 1 rfl rfl)
theorem dX1_restore_4 : decode cX1_restore 4 = .ok (.ifnull 7, 3) := dk_198 0 7 (dk_at dksX1_restore_0 4 rfl rfl)
theorem dX1_restore_7 : decode cX1_restore 7 = .ok (.iconst 1, 1) := dk_4 (dk_at dksX1_restore_0 7 rfl rfl)
theorem dX1_restore_8 : decode cX1_restore 8 = .ok (.goto 4, 3) := dk_167 0 4 (dk_at dksX1_restore_0 8 rfl rfl)
theorem dX1_restore_11 : decode cX1_restore 11 = .ok (.iconst 0, 1) := dk_3 (dk_at dksX1_restore_0 11 rfl rfl)
theorem dX1_restore_12 : decode cX1_restore 12 = .ok (.invokestatic 94, 3) := dk_184 0 94 (dk_at dksX1_restore_0 12 rfl rfl)
theorem dX1_restore_15 : decode cX1_restore 15 = .ok (.aload_n 0, 1) := dk_42 (dk_at dksX1_restore_0 15 rfl rfl)
theorem dX1_restore_16 : decode cX1_restore 16 = .ok (.new 36, 3) := dk_187 0 36 (dk_at dksX1_restore_0 16 rfl rfl)
theorem dX1_restore_19 : decode cX1_restore 19 = .ok (.dup, 1) := dk_89 (dk_at dksX1_restore_0 19 rfl rfl)
theorem dX1_restore_20 : decode cX1_restore 20 = .ok (.aload_n 0, 1) := dk_42 (dk_at dksX1_restore_0 20 rfl rfl)
theorem dX1_restore_21 : decode cX1_restore 21 = .ok (.getfield 328, 3) := dk_180 1 72 (dk_at dksX1_restore_0 21 rfl rfl)
theorem dX1_restore_24 : decode cX1_restore 24 = .ok (.invokespecial 105, 3) := dk_183 0 105 (dk_at dksX1_restore_1 0 rfl rfl)
theorem dX1_restore_27 : decode cX1_restore 27 = .ok (.putfield 39, 3) := dk_181 0 39 (dk_at dksX1_restore_1 3 rfl rfl)
theorem dX1_restore_30 : decode cX1_restore 30 = .ok (.aload_n 0, 1) := dk_42 (dk_at dksX1_restore_1 6 rfl rfl)
theorem dX1_restore_31 : decode cX1_restore 31 = .ok (.getfield 46, 3) := dk_180 0 46 (dk_at dksX1_restore_1 7 rfl rfl)
theorem dX1_restore_34 : decode cX1_restore 34 = .ok (.invokevirtual 331, 3) := dk_182 1 75 (dk_at dksX1_restore_1 10 rfl rfl)
theorem dX1_restore_37 : decode cX1_restore 37 = .ok (.aload_n 0, 1) := dk_42 (dk_at dksX1_restore_1 13 rfl rfl)
theorem dX1_restore_38 : decode cX1_restore 38 = .ok (.getfield 39, 3) := dk_180 0 39 (dk_at dksX1_restore_1 14 rfl rfl)
theorem dX1_restore_41 : decode cX1_restore 41 = .ok (.getfield 80, 3) := dk_180 0 80 (dk_at dksX1_restore_1 17 rfl rfl)
theorem dX1_restore_44 : decode cX1_restore 44 = .ok (.invokevirtual 54, 3) := dk_182 0 54 (dk_at dksX1_restore_1 20 rfl rfl)
theorem dX1_restore_47 : decode cX1_restore 47 = .ok (.ireturn, 1) := dk_172 (dk_at dksX1_restore_1 23 rfl rfl)
theorem q97 : (Jvm.Cond.initialized "LogCompactor") ∈ lw_all := lw_g (lw_at lw_m1 1 rfl) rfl
theorem q142 : (Jvm.Cond.instantiable "LogCompactor" (7 : Nat)) ∈ lw_all := lw_g (lw_at lw_m1 46 rfl) rfl
theorem q144 : (Jvm.Cond.instanceMethod ({ cls := "LogCompactor", name := "<init>", desc := "()V" } : Jvm.MethodName)) ∈ lw_all := lw_g (lw_at lw_m1 48 rfl) rfl
theorem q145 : (Jvm.Cond.code ({ cls := "LogCompactor", name := "<init>", desc := "()V" } : Jvm.MethodName) prog_1_method_6_code (1 : Nat) (Option.none : Option Jvm.ClassFile.FieldType)) ∈ lw_all := lw_g (lw_at lw_m1 49 rfl) rfl
theorem q146 : (Jvm.Cond.methodLink "LogCompactor" (33 : Nat) ({ cls := "java/lang/Object", name := "<init>", desc := "()V" } : Jvm.MethodName)) ∈ lw_all := lw_g (lw_at lw_m1 50 rfl) rfl
theorem q149 : (Jvm.Cond.classLink "LogCompactor" (36 : Nat) "LogCompactor$Log") ∈ lw_all := lw_g (lw_at lw_m1 53 rfl) rfl
theorem q151 : (Jvm.Cond.methodLink "LogCompactor" (38 : Nat) ({ cls := "LogCompactor$Log", name := "<init>", desc := "()V" } : Jvm.MethodName)) ∈ lw_all := lw_g (lw_at lw_m1 55 rfl) rfl
theorem q195 : (Jvm.Cond.fieldLinkNest "LogCompactor" (183 : Nat) "LogCompactor$Column" "tokens" "[LLogCompactor$Token;" "LogCompactor") ∈ lw_tbl := lw_at lw_m1 99 rfl
theorem q197 : (Jvm.Cond.fieldLinkNest "LogCompactor" (271 : Nat) "LogCompactor$Column" "count" "I" "LogCompactor") ∈ lw_tbl := lw_at lw_m1 101 rfl
theorem q206 : (Jvm.Cond.fieldLinkNest "LogCompactor" (80 : Nat) "LogCompactor$Log" "lines" "Ljava/util/ArrayList;" "LogCompactor") ∈ lw_tbl := lw_at lw_m1 110 rfl
theorem q209 : (Jvm.Cond.fieldLinkNest "LogCompactor" (65 : Nat) "LogCompactor$Log" "templates" "[LLogCompactor$Template;" "LogCompactor") ∈ lw_tbl := lw_at lw_m1 113 rfl
theorem q211 : (Jvm.Cond.fieldLinkNest "LogCompactor" (224 : Nat) "LogCompactor$Log" "threshold" "I" "LogCompactor") ∈ lw_tbl := lw_at lw_m1 115 rfl
theorem q222 : (Jvm.Cond.classLink "LogCompactor" (43 : Nat) "java/util/ArrayList") ∈ lw_all := lw_g (lw_at lw_m1 126 rfl) rfl
theorem q223 : (Jvm.Cond.methodLink "LogCompactor" (45 : Nat) ({ cls := "java/util/ArrayList", name := "<init>", desc := "()V" } : Jvm.MethodName)) ∈ lw_all := lw_g (lw_at lw_m1 127 rfl) rfl
theorem q224 : (Jvm.Cond.fieldLink "LogCompactor" (39 : Nat) "LogCompactor" "log" "LLogCompactor$Log;") ∈ lw_all := lw_g (lw_at lw_m1 128 rfl) rfl
theorem q225 : (Jvm.Cond.fieldLink "LogCompactor" (328 : Nat) "LogCompactor" "saved" "LLogCompactor$Log;") ∈ lw_all := lw_g (lw_at lw_m1 129 rfl) rfl
theorem q226 : (Jvm.Cond.fieldLink "LogCompactor" (46 : Nat) "LogCompactor" "history" "Ljava/util/ArrayList;") ∈ lw_all := lw_g (lw_at lw_m1 130 rfl) rfl
theorem q227 : (Jvm.Cond.fieldLink "LogCompactor" (125 : Nat) "LogCompactor" "report" "LLogCompactor$RefusedException;") ∈ lw_all := lw_g (lw_at lw_m1 131 rfl) rfl
theorem q229 : (Jvm.Cond.fieldLink "LogCompactor" (50 : Nat) "LogCompactor" "input" "[C") ∈ lw_all := lw_g (lw_at lw_m1 133 rfl) rfl
theorem q231 : (Jvm.Cond.fieldLink "LogCompactor" (90 : Nat) "LogCompactor" "inputLength" "I") ∈ lw_all := lw_g (lw_at lw_m1 135 rfl) rfl
theorem q232 : (Jvm.Cond.fieldLink "LogCompactor" (289 : Nat) "LogCompactor" "conditions" "Ljava/util/ArrayList;") ∈ lw_all := lw_g (lw_at lw_m1 136 rfl) rfl
theorem q233 : (Jvm.Cond.lays "LogCompactor" "LogCompactor" "log" "LLogCompactor$Log;") ∈ lw_all := lw_g (lw_at lw_m1 137 rfl) rfl
theorem q234 : (Jvm.Cond.soleField "LogCompactor" "log") ∈ lw_all := lw_g (lw_at lw_m1 138 rfl) rfl
theorem q235 : (Jvm.Cond.lays "LogCompactor" "LogCompactor" "saved" "LLogCompactor$Log;") ∈ lw_all := lw_g (lw_at lw_m1 139 rfl) rfl
theorem q236 : (Jvm.Cond.soleField "LogCompactor" "saved") ∈ lw_all := lw_g (lw_at lw_m1 140 rfl) rfl
theorem q237 : (Jvm.Cond.laysFinal "LogCompactor" "LogCompactor" "history" "Ljava/util/ArrayList;") ∈ lw_all := lw_g (lw_at lw_m1 141 rfl) rfl
theorem q238 : (Jvm.Cond.soleField "LogCompactor" "history") ∈ lw_all := lw_g (lw_at lw_m1 142 rfl) rfl
theorem q239 : (Jvm.Cond.lays "LogCompactor" "LogCompactor" "report" "LLogCompactor$RefusedException;") ∈ lw_all := lw_g (lw_at lw_m1 143 rfl) rfl
theorem q240 : (Jvm.Cond.soleField "LogCompactor" "report") ∈ lw_all := lw_g (lw_at lw_m1 144 rfl) rfl
theorem q241 : (Jvm.Cond.laysFinal "LogCompactor" "LogCompactor" "input" "[C") ∈ lw_all := lw_g (lw_at lw_m1 145 rfl) rfl
theorem q242 : (Jvm.Cond.soleField "LogCompactor" "input") ∈ lw_all := lw_g (lw_at lw_m1 146 rfl) rfl
theorem q243 : (Jvm.Cond.lays "LogCompactor" "LogCompactor" "inputLength" "I") ∈ lw_all := lw_g (lw_at lw_m1 147 rfl) rfl
theorem q244 : (Jvm.Cond.soleField "LogCompactor" "inputLength") ∈ lw_all := lw_g (lw_at lw_m1 148 rfl) rfl
theorem q245 : (Jvm.Cond.lays "LogCompactor" "LogCompactor" "conditions" "Ljava/util/ArrayList;") ∈ lw_all := lw_g (lw_at lw_m1 149 rfl) rfl
theorem q246 : (Jvm.Cond.soleField "LogCompactor" "conditions") ∈ lw_all := lw_g (lw_at lw_m1 150 rfl) rfl
theorem q247 : (Jvm.Cond.superclass "LogCompactor" "java/lang/Object") ∈ lw_all := lw_g (lw_at lw_m1 151 rfl) rfl
theorem q250 : (Jvm.Cond.instanceMethod ({ cls := "LogCompactor", name := "templates", desc := "()I" } : Jvm.MethodName)) ∈ lw_all := lw_g (lw_at lw_m1 154 rfl) rfl
theorem q251 : (Jvm.Cond.selects "LogCompactor" ({ cls := "LogCompactor", name := "templates", desc := "()I" } : Jvm.MethodName) ({ cls := "LogCompactor", name := "templates", desc := "()I" } : Jvm.MethodName)) ∈ lw_all := lw_g (lw_at lw_m1 155 rfl) rfl
theorem q252 : (Jvm.Cond.code ({ cls := "LogCompactor", name := "templates", desc := "()I" } : Jvm.MethodName) prog_1_method_21_code (3 : Nat) (Option.some Jvm.ClassFile.FieldType.int)) ∈ lw_all := lw_g (lw_at lw_m1 156 rfl) rfl
theorem q254 : (Jvm.Cond.instanceMethod ({ cls := "LogCompactor", name := "compact", desc := "()I" } : Jvm.MethodName)) ∈ lw_all := lw_g (lw_at lw_m1 158 rfl) rfl
theorem q255 : (Jvm.Cond.selects "LogCompactor" ({ cls := "LogCompactor", name := "compact", desc := "()I" } : Jvm.MethodName) ({ cls := "LogCompactor", name := "compact", desc := "()I" } : Jvm.MethodName)) ∈ lw_all := lw_g (lw_at lw_m1 159 rfl) rfl
theorem q256 : (Jvm.Cond.codeWith ({ cls := "LogCompactor", name := "compact", desc := "()I" } : Jvm.MethodName) prog_1_method_30_code (4 : Nat) (Option.some Jvm.ClassFile.FieldType.int) [((14 : Nat), (27 : Nat), (30 : Nat), (123 : Nat))]) ∈ lw_all := lw_g (lw_at lw_m1 160 rfl) rfl
theorem q257 : (Jvm.Cond.classLink "LogCompactor" (123 : Nat) "LogCompactor$RefusedException") ∈ lw_all := lw_g (lw_at lw_m1 161 rfl) rfl
theorem q258 : (Jvm.Cond.methodLink "LogCompactor" (105 : Nat) ({ cls := "LogCompactor$Log", name := "<init>", desc := "(LLogCompactor$Log;)V" } : Jvm.MethodName)) ∈ lw_all := lw_g (lw_at lw_m1 162 rfl) rfl
theorem q410 : (Jvm.Cond.selects "LogCompactor" ({ cls := "java/lang/Object", name := "getClass", desc := "()Ljava/lang/Class;" } : Jvm.MethodName) ({ cls := "java/lang/Object", name := "getClass", desc := "()Ljava/lang/Class;" } : Jvm.MethodName)) ∈ lw_all := lw_g (lw_at lw_m2 74 rfl) rfl
theorem q453 : (Jvm.Cond.methodLink "LogCompactor" (250 : Nat) ({ cls := "LogCompactor$Log", name := "compactOnce", desc := "()Z" } : Jvm.MethodName)) ∈ lw_all := lw_g (lw_at lw_m2 117 rfl) rfl
theorem q688 : (Jvm.Cond.fieldLinkNest "LogCompactor" (162 : Nat) "LogCompactor$Template" "gaps" "Ljava/util/ArrayList;" "LogCompactor") ∈ lw_tbl := lw_at lw_m3 112 rfl
theorem q691 : (Jvm.Cond.fieldLinkNest "LogCompactor" (175 : Nat) "LogCompactor$Template" "slots" "Ljava/util/ArrayList;" "LogCompactor") ∈ lw_tbl := lw_at lw_m3 115 rfl
theorem q695 : (Jvm.Cond.fieldLinkNest "LogCompactor" (147 : Nat) "LogCompactor$Template" "rows" "Ljava/util/ArrayList;" "LogCompactor") ∈ lw_tbl := lw_at lw_m3 119 rfl
theorem q715 : (Jvm.Cond.fieldLinkNest "LogCompactor" (187 : Nat) "LogCompactor$Slot" "fixed" "LLogCompactor$Token;" "LogCompactor") ∈ lw_tbl := lw_at lw_m3 139 rfl
theorem q717 : (Jvm.Cond.fieldLinkNest "LogCompactor" (231 : Nat) "LogCompactor$Slot" "type" "I" "LogCompactor") ∈ lw_tbl := lw_at lw_m3 141 rfl
theorem q989 : (Jvm.Cond.methodLink "LogCompactor" (120 : Nat) ({ cls := "LogCompactor", name := "change", desc := "(LLogCompactor$Log;)V" } : Jvm.MethodName)) ∈ lw_all := lw_g (lw_at lw_m4 173 rfl) rfl
theorem q990 : (Jvm.Cond.privateMethod ({ cls := "LogCompactor", name := "change", desc := "(LLogCompactor$Log;)V" } : Jvm.MethodName)) ∈ lw_tbl := lw_at lw_m4 174 rfl
theorem q991 : (Jvm.Cond.instanceMethod ({ cls := "LogCompactor", name := "change", desc := "(LLogCompactor$Log;)V" } : Jvm.MethodName)) ∈ lw_all := lw_g (lw_at lw_m4 175 rfl) rfl
theorem q992 : (Jvm.Cond.code ({ cls := "LogCompactor", name := "change", desc := "(LLogCompactor$Log;)V" } : Jvm.MethodName) prog_1_method_7_code (3 : Nat) (Option.none : Option Jvm.ClassFile.FieldType)) ∈ lw_all := lw_g (lw_at lw_m4 176 rfl) rfl
theorem q993 : (Jvm.Cond.methodLink "LogCompactor" (54 : Nat) ({ cls := "java/util/ArrayList", name := "size", desc := "()I" } : Jvm.MethodName)) ∈ lw_all := lw_g (lw_at lw_m4 177 rfl) rfl
theorem q994 : (Jvm.Cond.methodLink "LogCompactor" (57 : Nat) ({ cls := "java/util/ArrayList", name := "remove", desc := "(I)Ljava/lang/Object;" } : Jvm.MethodName)) ∈ lw_all := lw_g (lw_at lw_m4 178 rfl) rfl
theorem q1002 : (Jvm.Cond.methodLink "LogCompactor" (61 : Nat) ({ cls := "java/util/ArrayList", name := "add", desc := "(Ljava/lang/Object;)Z" } : Jvm.MethodName)) ∈ lw_all := lw_g (lw_at lw_m4 186 rfl) rfl
theorem q1004 : (Jvm.Cond.instanceMethod ({ cls := "LogCompactor", name := "query", desc := "()I" } : Jvm.MethodName)) ∈ lw_all := lw_g (lw_at lw_m4 188 rfl) rfl
theorem q1005 : (Jvm.Cond.selects "LogCompactor" ({ cls := "LogCompactor", name := "query", desc := "()I" } : Jvm.MethodName) ({ cls := "LogCompactor", name := "query", desc := "()I" } : Jvm.MethodName)) ∈ lw_all := lw_g (lw_at lw_m4 189 rfl) rfl
theorem q1006 : (Jvm.Cond.codeWith ({ cls := "LogCompactor", name := "query", desc := "()I" } : Jvm.MethodName) prog_1_method_39_code (4 : Nat) (Option.some Jvm.ClassFile.FieldType.int) [((0 : Nat), (21 : Nat), (28 : Nat), (314 : Nat)), ((0 : Nat), (21 : Nat), (44 : Nat), (0 : Nat)), ((28 : Nat), (37 : Nat), (44 : Nat), (0 : Nat))]) ∈ lw_all := lw_g (lw_at lw_m4 190 rfl) rfl
theorem q1007 : (Jvm.Cond.classLink "LogCompactor" (314 : Nat) "LogCompactor$TextException") ∈ lw_all := lw_g (lw_at lw_m4 191 rfl) rfl
theorem q1008 : (Jvm.Cond.classLink "LogCompactor" (302 : Nat) "LogCompactor$Reader") ∈ lw_all := lw_g (lw_at lw_m4 192 rfl) rfl
theorem q1010 : (Jvm.Cond.methodLinkNest "LogCompactor" (304 : Nat) ({ cls := "LogCompactor$Reader", name := "<init>", desc := "(LLogCompactor;)V" } : Jvm.MethodName) "LogCompactor") ∈ lw_tbl := lw_at lw_m4 194 rfl
theorem q1021 : (Jvm.Cond.methodLink "LogCompactor" (307 : Nat) ({ cls := "LogCompactor$Reader", name := "all", desc := "()Ljava/util/ArrayList;" } : Jvm.MethodName)) ∈ lw_all := lw_g (lw_at lw_m4 205 rfl) rfl
theorem q1050 : (Jvm.Cond.static ({ cls := "LogCompactor", name := "inRange", desc := "(III)Z" } : Jvm.MethodName)) ∈ lw_all := lw_g (lw_at lw_m4 234 rfl) rfl
theorem q1051 : (Jvm.Cond.code ({ cls := "LogCompactor", name := "inRange", desc := "(III)Z" } : Jvm.MethodName) prog_1_method_1_code (3 : Nat) (Option.some Jvm.ClassFile.FieldType.boolean)) ∈ lw_all := lw_g (lw_at lw_m4 235 rfl) rfl
theorem q1070 : (Jvm.Cond.fieldLinkNest "LogCompactor" (316 : Nat) "LogCompactor$TextException" "position" "I" "LogCompactor") ∈ lw_tbl := lw_at lw_m5 14 rfl
theorem q1156 : (Jvm.Cond.methodLink "LogCompactor" (311 : Nat) ({ cls := "LogCompactor", name := "hits", desc := "(I)I" } : Jvm.MethodName)) ∈ lw_all := lw_g (lw_at lw_m5 100 rfl) rfl
theorem q1157 : (Jvm.Cond.privateMethod ({ cls := "LogCompactor", name := "hits", desc := "(I)I" } : Jvm.MethodName)) ∈ lw_tbl := lw_at lw_m5 101 rfl
theorem q1158 : (Jvm.Cond.instanceMethod ({ cls := "LogCompactor", name := "hits", desc := "(I)I" } : Jvm.MethodName)) ∈ lw_all := lw_g (lw_at lw_m5 102 rfl) rfl
theorem q1159 : (Jvm.Cond.code ({ cls := "LogCompactor", name := "hits", desc := "(I)I" } : Jvm.MethodName) prog_1_method_38_code (4 : Nat) (Option.some Jvm.ClassFile.FieldType.int)) ∈ lw_all := lw_g (lw_at lw_m5 103 rfl) rfl
theorem q1160 : (Jvm.Cond.methodLink "LogCompactor" (298 : Nat) ({ cls := "LogCompactor", name := "holdsBut", desc := "(II)Z" } : Jvm.MethodName)) ∈ lw_all := lw_g (lw_at lw_m5 104 rfl) rfl
theorem q1161 : (Jvm.Cond.privateMethod ({ cls := "LogCompactor", name := "holdsBut", desc := "(II)Z" } : Jvm.MethodName)) ∈ lw_tbl := lw_at lw_m5 105 rfl
theorem q1162 : (Jvm.Cond.instanceMethod ({ cls := "LogCompactor", name := "holdsBut", desc := "(II)Z" } : Jvm.MethodName)) ∈ lw_all := lw_g (lw_at lw_m5 106 rfl) rfl
theorem q1163 : (Jvm.Cond.code ({ cls := "LogCompactor", name := "holdsBut", desc := "(II)Z" } : Jvm.MethodName) prog_1_method_37_code (5 : Nat) (Option.some Jvm.ClassFile.FieldType.boolean)) ∈ lw_all := lw_g (lw_at lw_m5 107 rfl) rfl
theorem q1164 : (Jvm.Cond.methodLink "LogCompactor" (165 : Nat) ({ cls := "java/util/ArrayList", name := "get", desc := "(I)Ljava/lang/Object;" } : Jvm.MethodName)) ∈ lw_all := lw_g (lw_at lw_m5 108 rfl) rfl
theorem q1165 : (Jvm.Cond.classLink "LogCompactor" (292 : Nat) "LogCompactor$Condition") ∈ lw_all := lw_g (lw_at lw_m5 109 rfl) rfl
theorem q1166 : (Jvm.Cond.methodLink "LogCompactor" (294 : Nat) ({ cls := "LogCompactor$Condition", name := "holds", desc := "(LLogCompactor$Log;I)Z" } : Jvm.MethodName)) ∈ lw_all := lw_g (lw_at lw_m5 110 rfl) rfl
theorem q1212 : (Jvm.Cond.selects "LogCompactor" ({ cls := "java/lang/Object", name := "equals", desc := "(Ljava/lang/Object;)Z" } : Jvm.MethodName) ({ cls := "java/lang/Object", name := "equals", desc := "(Ljava/lang/Object;)Z" } : Jvm.MethodName)) ∈ lw_all := lw_g (lw_at lw_m5 156 rfl) rfl
theorem q1271 : (Jvm.Cond.instanceMethod ({ cls := "LogCompactor", name := "save", desc := "()I" } : Jvm.MethodName)) ∈ lw_all := lw_g (lw_at lw_m5 215 rfl) rfl
theorem q1272 : (Jvm.Cond.selects "LogCompactor" ({ cls := "LogCompactor", name := "save", desc := "()I" } : Jvm.MethodName) ({ cls := "LogCompactor", name := "save", desc := "()I" } : Jvm.MethodName)) ∈ lw_all := lw_g (lw_at lw_m5 216 rfl) rfl
theorem q1273 : (Jvm.Cond.code ({ cls := "LogCompactor", name := "save", desc := "()I" } : Jvm.MethodName) prog_1_method_45_code (1 : Nat) (Option.some Jvm.ClassFile.FieldType.int)) ∈ lw_all := lw_g (lw_at lw_m5 217 rfl) rfl
theorem q1279 : (Jvm.Cond.instanceMethod ({ cls := "LogCompactor", name := "feed", desc := "(C)I" } : Jvm.MethodName)) ∈ lw_all := lw_g (lw_at lw_m5 223 rfl) rfl
theorem q1280 : (Jvm.Cond.selects "LogCompactor" ({ cls := "LogCompactor", name := "feed", desc := "(C)I" } : Jvm.MethodName) ({ cls := "LogCompactor", name := "feed", desc := "(C)I" } : Jvm.MethodName)) ∈ lw_all := lw_g (lw_at lw_m5 224 rfl) rfl
theorem q1281 : (Jvm.Cond.code ({ cls := "LogCompactor", name := "feed", desc := "(C)I" } : Jvm.MethodName) prog_1_method_11_code (2 : Nat) (Option.some Jvm.ClassFile.FieldType.int)) ∈ lw_all := lw_g (lw_at lw_m5 225 rfl) rfl
theorem q1282 : (Jvm.Cond.methodLink "LogCompactor" (94 : Nat) ({ cls := "LogCompactor", name := "checkState", desc := "(Z)V" } : Jvm.MethodName)) ∈ lw_all := lw_g (lw_at lw_m5 226 rfl) rfl
theorem q1283 : (Jvm.Cond.static ({ cls := "LogCompactor", name := "checkState", desc := "(Z)V" } : Jvm.MethodName)) ∈ lw_all := lw_g (lw_at lw_m5 227 rfl) rfl
theorem q1284 : (Jvm.Cond.code ({ cls := "LogCompactor", name := "checkState", desc := "(Z)V" } : Jvm.MethodName) prog_1_method_3_code (1 : Nat) (Option.none : Option Jvm.ClassFile.FieldType)) ∈ lw_all := lw_g (lw_at lw_m5 228 rfl) rfl
theorem q1285 : (Jvm.Cond.classLink "LogCompactor" (7 : Nat) "java/lang/IllegalStateException") ∈ lw_all := lw_g (lw_at lw_m5 229 rfl) rfl
theorem q1294 : (Jvm.Cond.methodLink "LogCompactor" (9 : Nat) ({ cls := "java/lang/IllegalStateException", name := "<init>", desc := "()V" } : Jvm.MethodName)) ∈ lw_all := lw_g (lw_at lw_m5 238 rfl) rfl
theorem q1306 : (Jvm.Cond.instanceMethod ({ cls := "LogCompactor", name := "add", desc := "()I" } : Jvm.MethodName)) ∈ lw_all := lw_g (lw_at lw_m6 10 rfl) rfl
theorem q1307 : (Jvm.Cond.selects "LogCompactor" ({ cls := "LogCompactor", name := "add", desc := "()I" } : Jvm.MethodName) ({ cls := "LogCompactor", name := "add", desc := "()I" } : Jvm.MethodName)) ∈ lw_all := lw_g (lw_at lw_m6 11 rfl) rfl
theorem q1308 : (Jvm.Cond.codeWith ({ cls := "LogCompactor", name := "add", desc := "()I" } : Jvm.MethodName) prog_1_method_13_code (5 : Nat) (Option.some Jvm.ClassFile.FieldType.int) [((0 : Nat), (73 : Nat), (80 : Nat), (123 : Nat)), ((0 : Nat), (73 : Nat), (94 : Nat), (0 : Nat)), ((80 : Nat), (96 : Nat), (94 : Nat), (0 : Nat))]) ∈ lw_all := lw_g (lw_at lw_m6 12 rfl) rfl
theorem q1309 : (Jvm.Cond.methodLink "LogCompactor" (98 : Nat) ({ cls := "LogCompactor", name := "isLineText", desc := "()Z" } : Jvm.MethodName)) ∈ lw_all := lw_g (lw_at lw_m6 13 rfl) rfl
theorem q1310 : (Jvm.Cond.privateMethod ({ cls := "LogCompactor", name := "isLineText", desc := "()Z" } : Jvm.MethodName)) ∈ lw_tbl := lw_at lw_m6 14 rfl
theorem q1311 : (Jvm.Cond.instanceMethod ({ cls := "LogCompactor", name := "isLineText", desc := "()Z" } : Jvm.MethodName)) ∈ lw_all := lw_g (lw_at lw_m6 15 rfl) rfl
theorem q1312 : (Jvm.Cond.code ({ cls := "LogCompactor", name := "isLineText", desc := "()Z" } : Jvm.MethodName) prog_1_method_12_code (3 : Nat) (Option.some Jvm.ClassFile.FieldType.boolean)) ∈ lw_all := lw_g (lw_at lw_m6 16 rfl) rfl
theorem q1313 : (Jvm.Cond.methodLink "LogCompactor" (10 : Nat) ({ cls := "LogCompactor", name := "inRange", desc := "(III)Z" } : Jvm.MethodName)) ∈ lw_all := lw_g (lw_at lw_m6 17 rfl) rfl
theorem q1314 : (Jvm.Cond.methodLink "LogCompactor" (102 : Nat) ({ cls := "LogCompactor", name := "checkArgument", desc := "(Z)V" } : Jvm.MethodName)) ∈ lw_all := lw_g (lw_at lw_m6 18 rfl) rfl
theorem q1315 : (Jvm.Cond.static ({ cls := "LogCompactor", name := "checkArgument", desc := "(Z)V" } : Jvm.MethodName)) ∈ lw_all := lw_g (lw_at lw_m6 19 rfl) rfl
theorem q1316 : (Jvm.Cond.code ({ cls := "LogCompactor", name := "checkArgument", desc := "(Z)V" } : Jvm.MethodName) prog_1_method_2_code (1 : Nat) (Option.none : Option Jvm.ClassFile.FieldType)) ∈ lw_all := lw_g (lw_at lw_m6 20 rfl) rfl
theorem q1317 : (Jvm.Cond.classLink "LogCompactor" (1 : Nat) "java/lang/IllegalArgumentException") ∈ lw_all := lw_g (lw_at lw_m6 21 rfl) rfl
theorem q1318 : (Jvm.Cond.methodLink "LogCompactor" (3 : Nat) ({ cls := "java/lang/IllegalArgumentException", name := "<init>", desc := "()V" } : Jvm.MethodName)) ∈ lw_all := lw_g (lw_at lw_m6 22 rfl) rfl
theorem q1322 : (Jvm.Cond.classLink "LogCompactor" (108 : Nat) "LogCompactor$Line") ∈ lw_all := lw_g (lw_at lw_m6 26 rfl) rfl
theorem q1324 : (Jvm.Cond.methodLink "LogCompactor" (110 : Nat) ({ cls := "java/lang/String", name := "valueOf", desc := "([CII)Ljava/lang/String;" } : Jvm.MethodName)) ∈ lw_all := lw_g (lw_at lw_m6 28 rfl) rfl
theorem q1325 : (Jvm.Cond.methodLink "LogCompactor" (114 : Nat) ({ cls := "LogCompactor$Line", name := "<init>", desc := "(Ljava/lang/String;)V" } : Jvm.MethodName)) ∈ lw_all := lw_g (lw_at lw_m6 29 rfl) rfl
theorem q1385 : (Jvm.Cond.fieldLinkNest "LogCompactor" (191 : Nat) "LogCompactor$Token" "text" "Ljava/lang/String;" "LogCompactor") ∈ lw_tbl := lw_at lw_m6 89 rfl
theorem q1390 : (Jvm.Cond.fieldLinkNest "LogCompactor" (276 : Nat) "LogCompactor$Token" "type" "I" "LogCompactor") ∈ lw_tbl := lw_at lw_m6 94 rfl
theorem q1402 : (Jvm.Cond.fieldLinkNest "LogCompactor" (216 : Nat) "LogCompactor$Line" "tokens" "Ljava/util/ArrayList;" "LogCompactor") ∈ lw_tbl := lw_at lw_m6 106 rfl
theorem q1413 : (Jvm.Cond.methodLink "LogCompactor" (117 : Nat) ({ cls := "LogCompactor$Log", name := "add", desc := "(LLogCompactor$Line;)I" } : Jvm.MethodName)) ∈ lw_all := lw_g (lw_at lw_m6 117 rfl) rfl
theorem q1464 : (Jvm.Cond.classLink "LogCompactor" (129 : Nat) "java/lang/UnsupportedOperationException") ∈ lw_all := lw_g (lw_at lw_m6 168 rfl) rfl
theorem q1473 : (Jvm.Cond.methodLink "LogCompactor" (131 : Nat) ({ cls := "java/lang/UnsupportedOperationException", name := "<init>", desc := "()V" } : Jvm.MethodName)) ∈ lw_all := lw_g (lw_at lw_m6 177 rfl) rfl
theorem q1483 : (Jvm.Cond.instanceMethod ({ cls := "LogCompactor", name := "count", desc := "(I)I" } : Jvm.MethodName)) ∈ lw_all := lw_g (lw_at lw_m6 187 rfl) rfl
theorem q1484 : (Jvm.Cond.selects "LogCompactor" ({ cls := "LogCompactor", name := "count", desc := "(I)I" } : Jvm.MethodName) ({ cls := "LogCompactor", name := "count", desc := "(I)I" } : Jvm.MethodName)) ∈ lw_all := lw_g (lw_at lw_m6 188 rfl) rfl
theorem q1485 : (Jvm.Cond.code ({ cls := "LogCompactor", name := "count", desc := "(I)I" } : Jvm.MethodName) prog_1_method_15_code (2 : Nat) (Option.some Jvm.ClassFile.FieldType.int)) ∈ lw_all := lw_g (lw_at lw_m6 189 rfl) rfl
theorem q1486 : (Jvm.Cond.methodLink "LogCompactor" (132 : Nat) ({ cls := "LogCompactor$Log", name := "count", desc := "()I" } : Jvm.MethodName)) ∈ lw_all := lw_g (lw_at lw_m6 190 rfl) rfl
theorem q1490 : (Jvm.Cond.methodLink "LogCompactor" (135 : Nat) ({ cls := "LogCompactor", name := "columns", desc := "()I" } : Jvm.MethodName)) ∈ lw_all := lw_g (lw_at lw_m6 194 rfl) rfl
theorem q1491 : (Jvm.Cond.privateMethod ({ cls := "LogCompactor", name := "columns", desc := "()I" } : Jvm.MethodName)) ∈ lw_tbl := lw_at lw_m6 195 rfl
theorem q1492 : (Jvm.Cond.instanceMethod ({ cls := "LogCompactor", name := "columns", desc := "()I" } : Jvm.MethodName)) ∈ lw_all := lw_g (lw_at lw_m6 196 rfl) rfl
theorem q1493 : (Jvm.Cond.code ({ cls := "LogCompactor", name := "columns", desc := "()I" } : Jvm.MethodName) prog_1_method_14_code (6 : Nat) (Option.some Jvm.ClassFile.FieldType.int)) ∈ lw_all := lw_g (lw_at lw_m6 197 rfl) rfl
theorem q1494 : (Jvm.Cond.methodLink "LogCompactor" (73 : Nat) ({ cls := "LogCompactor$Template", name := "variables", desc := "()I" } : Jvm.MethodName)) ∈ lw_all := lw_g (lw_at lw_m6 198 rfl) rfl
theorem q1498 : (Jvm.Cond.methodLink "LogCompactor" (138 : Nat) ({ cls := "LogCompactor$Log", name := "characters", desc := "()I" } : Jvm.MethodName)) ∈ lw_all := lw_g (lw_at lw_m6 202 rfl) rfl
theorem q1506 : (Jvm.Cond.methodLink "LogCompactor" (141 : Nat) ({ cls := "LogCompactor$Log", name := "cost", desc := "()I" } : Jvm.MethodName)) ∈ lw_all := lw_g (lw_at lw_m6 210 rfl) rfl
theorem q1530 : (Jvm.Cond.instanceMethod ({ cls := "LogCompactor", name := "line", desc := "(II)I" } : Jvm.MethodName)) ∈ lw_all := lw_g (lw_at lw_m6 234 rfl) rfl
theorem q1531 : (Jvm.Cond.selects "LogCompactor" ({ cls := "LogCompactor", name := "line", desc := "(II)I" } : Jvm.MethodName) ({ cls := "LogCompactor", name := "line", desc := "(II)I" } : Jvm.MethodName)) ∈ lw_all := lw_g (lw_at lw_m6 235 rfl) rfl
theorem q1532 : (Jvm.Cond.code ({ cls := "LogCompactor", name := "line", desc := "(II)I" } : Jvm.MethodName) prog_1_method_17_code (3 : Nat) (Option.some Jvm.ClassFile.FieldType.int)) ∈ lw_all := lw_g (lw_at lw_m6 236 rfl) rfl
theorem q1533 : (Jvm.Cond.methodLink "LogCompactor" (204 : Nat) ({ cls := "LogCompactor", name := "checkLine", desc := "(I)V" } : Jvm.MethodName)) ∈ lw_all := lw_g (lw_at lw_m6 237 rfl) rfl
theorem q1534 : (Jvm.Cond.privateMethod ({ cls := "LogCompactor", name := "checkLine", desc := "(I)V" } : Jvm.MethodName)) ∈ lw_tbl := lw_at lw_m6 238 rfl
theorem q1535 : (Jvm.Cond.instanceMethod ({ cls := "LogCompactor", name := "checkLine", desc := "(I)V" } : Jvm.MethodName)) ∈ lw_all := lw_g (lw_at lw_m6 239 rfl) rfl
theorem q1536 : (Jvm.Cond.code ({ cls := "LogCompactor", name := "checkLine", desc := "(I)V" } : Jvm.MethodName) prog_1_method_10_code (2 : Nat) (Option.none : Option Jvm.ClassFile.FieldType)) ∈ lw_all := lw_g (lw_at lw_m7 0 rfl) rfl
theorem q1537 : (Jvm.Cond.methodLink "LogCompactor" (25 : Nat) ({ cls := "LogCompactor", name := "checkIndex", desc := "(II)V" } : Jvm.MethodName)) ∈ lw_all := lw_g (lw_at lw_m7 1 rfl) rfl
theorem q1538 : (Jvm.Cond.static ({ cls := "LogCompactor", name := "checkIndex", desc := "(II)V" } : Jvm.MethodName)) ∈ lw_all := lw_g (lw_at lw_m7 2 rfl) rfl
theorem q1539 : (Jvm.Cond.code ({ cls := "LogCompactor", name := "checkIndex", desc := "(II)V" } : Jvm.MethodName) prog_1_method_4_code (2 : Nat) (Option.none : Option Jvm.ClassFile.FieldType)) ∈ lw_all := lw_g (lw_at lw_m7 3 rfl) rfl
theorem q1540 : (Jvm.Cond.classLink "LogCompactor" (16 : Nat) "java/lang/IndexOutOfBoundsException") ∈ lw_all := lw_g (lw_at lw_m7 4 rfl) rfl
theorem q1541 : (Jvm.Cond.methodLink "LogCompactor" (18 : Nat) ({ cls := "java/lang/IndexOutOfBoundsException", name := "<init>", desc := "()V" } : Jvm.MethodName)) ∈ lw_all := lw_g (lw_at lw_m7 5 rfl) rfl
theorem q1545 : (Jvm.Cond.methodLink "LogCompactor" (208 : Nat) ({ cls := "LogCompactor", name := "decoded", desc := "(I)Ljava/lang/String;" } : Jvm.MethodName)) ∈ lw_all := lw_g (lw_at lw_m7 9 rfl) rfl
theorem q1546 : (Jvm.Cond.privateMethod ({ cls := "LogCompactor", name := "decoded", desc := "(I)Ljava/lang/String;" } : Jvm.MethodName)) ∈ lw_tbl := lw_at lw_m7 10 rfl
theorem q1547 : (Jvm.Cond.instanceMethod ({ cls := "LogCompactor", name := "decoded", desc := "(I)Ljava/lang/String;" } : Jvm.MethodName)) ∈ lw_all := lw_g (lw_at lw_m7 11 rfl) rfl
theorem q1548 : (Jvm.Cond.code ({ cls := "LogCompactor", name := "decoded", desc := "(I)Ljava/lang/String;" } : Jvm.MethodName) prog_1_method_16_code (10 : Nat) (Option.some (Jvm.ClassFile.FieldType.object "java/lang/String"))) ∈ lw_all := lw_g (lw_at lw_m7 12 rfl) rfl
theorem q1549 : (Jvm.Cond.methodLink "LogCompactor" (144 : Nat) ({ cls := "LogCompactor$Log", name := "templateOf", desc := "(I)I" } : Jvm.MethodName)) ∈ lw_all := lw_g (lw_at lw_m7 13 rfl) rfl
theorem q1550 : (Jvm.Cond.methodLink "LogCompactor" (150 : Nat) ({ cls := "java/lang/Integer", name := "valueOf", desc := "(I)Ljava/lang/Integer;" } : Jvm.MethodName)) ∈ lw_all := lw_g (lw_at lw_m7 14 rfl) rfl
theorem q1551 : (Jvm.Cond.methodLink "LogCompactor" (155 : Nat) ({ cls := "java/util/ArrayList", name := "indexOf", desc := "(Ljava/lang/Object;)I" } : Jvm.MethodName)) ∈ lw_all := lw_g (lw_at lw_m7 15 rfl) rfl
theorem q1552 : (Jvm.Cond.classLink "LogCompactor" (159 : Nat) "java/lang/StringBuilder") ∈ lw_all := lw_g (lw_at lw_m7 16 rfl) rfl
theorem q1553 : (Jvm.Cond.methodLink "LogCompactor" (161 : Nat) ({ cls := "java/lang/StringBuilder", name := "<init>", desc := "()V" } : Jvm.MethodName)) ∈ lw_all := lw_g (lw_at lw_m7 17 rfl) rfl
theorem q1554 : (Jvm.Cond.classLink "LogCompactor" (151 : Nat) "java/lang/Integer") ∈ lw_all := lw_g (lw_at lw_m7 18 rfl) rfl
theorem q1555 : (Jvm.Cond.methodLink "LogCompactor" (168 : Nat) ({ cls := "java/lang/Integer", name := "intValue", desc := "()I" } : Jvm.MethodName)) ∈ lw_all := lw_g (lw_at lw_m7 19 rfl) rfl
theorem q1556 : (Jvm.Cond.methodLink "LogCompactor" (171 : Nat) ({ cls := "java/lang/StringBuilder", name := "append", desc := "(C)Ljava/lang/StringBuilder;" } : Jvm.MethodName)) ∈ lw_all := lw_g (lw_at lw_m7 20 rfl) rfl
theorem q1569 : (Jvm.Cond.classLink "LogCompactor" (178 : Nat) "LogCompactor$Slot") ∈ lw_all := lw_g (lw_at lw_m7 33 rfl) rfl
theorem q1570 : (Jvm.Cond.methodLink "LogCompactor" (180 : Nat) ({ cls := "LogCompactor$Slot", name := "isVariable", desc := "()Z" } : Jvm.MethodName)) ∈ lw_all := lw_g (lw_at lw_m7 34 rfl) rfl
theorem q1571 : (Jvm.Cond.classLink "LogCompactor" (78 : Nat) "LogCompactor$Column") ∈ lw_all := lw_g (lw_at lw_m7 35 rfl) rfl
theorem q1572 : (Jvm.Cond.methodLink "LogCompactor" (87 : Nat) ({ cls := "LogCompactor$Column", name := "<init>", desc := "(Ljava/util/ArrayList;LLogCompactor$Template;I)V" } : Jvm.MethodName)) ∈ lw_all := lw_g (lw_at lw_m7 36 rfl) rfl
theorem q1576 : (Jvm.Cond.methodLink "LogCompactor" (197 : Nat) ({ cls := "java/lang/StringBuilder", name := "append", desc := "(Ljava/lang/String;)Ljava/lang/StringBuilder;" } : Jvm.MethodName)) ∈ lw_all := lw_g (lw_at lw_m7 40 rfl) rfl
theorem q1577 : (Jvm.Cond.methodLink "LogCompactor" (200 : Nat) ({ cls := "java/lang/StringBuilder", name := "toString", desc := "()Ljava/lang/String;" } : Jvm.MethodName)) ∈ lw_all := lw_g (lw_at lw_m7 41 rfl) rfl
theorem q1578 : (Jvm.Cond.methodLink "LogCompactor" (212 : Nat) ({ cls := "LogCompactor", name := "characterOf", desc := "(Ljava/lang/String;I)I" } : Jvm.MethodName)) ∈ lw_all := lw_g (lw_at lw_m7 42 rfl) rfl
theorem q1579 : (Jvm.Cond.static ({ cls := "LogCompactor", name := "characterOf", desc := "(Ljava/lang/String;I)I" } : Jvm.MethodName)) ∈ lw_all := lw_g (lw_at lw_m7 43 rfl) rfl
theorem q1580 : (Jvm.Cond.code ({ cls := "LogCompactor", name := "characterOf", desc := "(Ljava/lang/String;I)I" } : Jvm.MethodName) prog_1_method_5_code (2 : Nat) (Option.some Jvm.ClassFile.FieldType.int)) ∈ lw_all := lw_g (lw_at lw_m7 44 rfl) rfl
theorem q1581 : (Jvm.Cond.methodLink "LogCompactor" (19 : Nat) ({ cls := "java/lang/String", name := "length", desc := "()I" } : Jvm.MethodName)) ∈ lw_all := lw_g (lw_at lw_m7 45 rfl) rfl
theorem q1582 : (Jvm.Cond.methodLink "LogCompactor" (29 : Nat) ({ cls := "java/lang/String", name := "charAt", desc := "(I)C" } : Jvm.MethodName)) ∈ lw_all := lw_g (lw_at lw_m7 46 rfl) rfl
theorem q1587 : (Jvm.Cond.instanceMethod ({ cls := "LogCompactor", name := "place", desc := "(II)I" } : Jvm.MethodName)) ∈ lw_all := lw_g (lw_at lw_m7 51 rfl) rfl
theorem q1588 : (Jvm.Cond.selects "LogCompactor" ({ cls := "LogCompactor", name := "place", desc := "(II)I" } : Jvm.MethodName) ({ cls := "LogCompactor", name := "place", desc := "(II)I" } : Jvm.MethodName)) ∈ lw_all := lw_g (lw_at lw_m7 52 rfl) rfl
theorem q1589 : (Jvm.Cond.code ({ cls := "LogCompactor", name := "place", desc := "(II)I" } : Jvm.MethodName) prog_1_method_18_code (4 : Nat) (Option.some Jvm.ClassFile.FieldType.int)) ∈ lw_all := lw_g (lw_at lw_m7 53 rfl) rfl
theorem q1590 : (Jvm.Cond.methodLink "LogCompactor" (218 : Nat) ({ cls := "LogCompactor$Template", name := "fit", desc := "(LLogCompactor$Line;)I" } : Jvm.MethodName)) ∈ lw_all := lw_g (lw_at lw_m7 54 rfl) rfl
theorem q1595 : (Jvm.Cond.instanceMethod ({ cls := "LogCompactor", name := "cut", desc := "(I)I" } : Jvm.MethodName)) ∈ lw_all := lw_g (lw_at lw_m7 59 rfl) rfl
theorem q1596 : (Jvm.Cond.selects "LogCompactor" ({ cls := "LogCompactor", name := "cut", desc := "(I)I" } : Jvm.MethodName) ({ cls := "LogCompactor", name := "cut", desc := "(I)I" } : Jvm.MethodName)) ∈ lw_all := lw_g (lw_at lw_m7 60 rfl) rfl
theorem q1597 : (Jvm.Cond.code ({ cls := "LogCompactor", name := "cut", desc := "(I)I" } : Jvm.MethodName) prog_1_method_19_code (4 : Nat) (Option.some Jvm.ClassFile.FieldType.int)) ∈ lw_all := lw_g (lw_at lw_m7 61 rfl) rfl
theorem q1598 : (Jvm.Cond.methodLink "LogCompactor" (221 : Nat) ({ cls := "LogCompactor$Log", name := "cut", desc := "(I)I" } : Jvm.MethodName)) ∈ lw_all := lw_g (lw_at lw_m7 62 rfl) rfl
theorem q1615 : (Jvm.Cond.instanceMethod ({ cls := "LogCompactor", name := "setThreshold", desc := "(I)I" } : Jvm.MethodName)) ∈ lw_all := lw_g (lw_at lw_m7 79 rfl) rfl
theorem q1616 : (Jvm.Cond.selects "LogCompactor" ({ cls := "LogCompactor", name := "setThreshold", desc := "(I)I" } : Jvm.MethodName) ({ cls := "LogCompactor", name := "setThreshold", desc := "(I)I" } : Jvm.MethodName)) ∈ lw_all := lw_g (lw_at lw_m7 80 rfl) rfl
theorem q1617 : (Jvm.Cond.code ({ cls := "LogCompactor", name := "setThreshold", desc := "(I)I" } : Jvm.MethodName) prog_1_method_20_code (4 : Nat) (Option.some Jvm.ClassFile.FieldType.int)) ∈ lw_all := lw_g (lw_at lw_m7 81 rfl) rfl
theorem q1622 : (Jvm.Cond.instanceMethod ({ cls := "LogCompactor", name := "template", desc := "(II)I" } : Jvm.MethodName)) ∈ lw_all := lw_g (lw_at lw_m7 86 rfl) rfl
theorem q1623 : (Jvm.Cond.selects "LogCompactor" ({ cls := "LogCompactor", name := "template", desc := "(II)I" } : Jvm.MethodName) ({ cls := "LogCompactor", name := "template", desc := "(II)I" } : Jvm.MethodName)) ∈ lw_all := lw_g (lw_at lw_m7 87 rfl) rfl
theorem q1624 : (Jvm.Cond.code ({ cls := "LogCompactor", name := "template", desc := "(II)I" } : Jvm.MethodName) prog_1_method_22_code (4 : Nat) (Option.some Jvm.ClassFile.FieldType.int)) ∈ lw_all := lw_g (lw_at lw_m7 88 rfl) rfl
theorem q1625 : (Jvm.Cond.methodLink "LogCompactor" (69 : Nat) ({ cls := "LogCompactor", name := "at", desc := "(I)LLogCompactor$Template;" } : Jvm.MethodName)) ∈ lw_all := lw_g (lw_at lw_m7 89 rfl) rfl
theorem q1626 : (Jvm.Cond.privateMethod ({ cls := "LogCompactor", name := "at", desc := "(I)LLogCompactor$Template;" } : Jvm.MethodName)) ∈ lw_tbl := lw_at lw_m7 90 rfl
theorem q1627 : (Jvm.Cond.instanceMethod ({ cls := "LogCompactor", name := "at", desc := "(I)LLogCompactor$Template;" } : Jvm.MethodName)) ∈ lw_all := lw_g (lw_at lw_m7 91 rfl) rfl
theorem q1628 : (Jvm.Cond.code ({ cls := "LogCompactor", name := "at", desc := "(I)LLogCompactor$Template;" } : Jvm.MethodName) prog_1_method_8_code (2 : Nat) (Option.some (Jvm.ClassFile.FieldType.object "LogCompactor$Template"))) ∈ lw_all := lw_g (lw_at lw_m7 92 rfl) rfl
theorem q1629 : (Jvm.Cond.methodLink "LogCompactor" (227 : Nat) ({ cls := "LogCompactor$Template", name := "cost", desc := "()I" } : Jvm.MethodName)) ∈ lw_all := lw_g (lw_at lw_m7 93 rfl) rfl
theorem q1630 : (Jvm.Cond.methodLink "LogCompactor" (228 : Nat) ({ cls := "LogCompactor$Template", name := "gapSum", desc := "()I" } : Jvm.MethodName)) ∈ lw_all := lw_g (lw_at lw_m7 94 rfl) rfl
theorem q1635 : (Jvm.Cond.instanceMethod ({ cls := "LogCompactor", name := "slot", desc := "(II)I" } : Jvm.MethodName)) ∈ lw_all := lw_g (lw_at lw_m7 99 rfl) rfl
theorem q1636 : (Jvm.Cond.selects "LogCompactor" ({ cls := "LogCompactor", name := "slot", desc := "(II)I" } : Jvm.MethodName) ({ cls := "LogCompactor", name := "slot", desc := "(II)I" } : Jvm.MethodName)) ∈ lw_all := lw_g (lw_at lw_m7 100 rfl) rfl
theorem q1637 : (Jvm.Cond.code ({ cls := "LogCompactor", name := "slot", desc := "(II)I" } : Jvm.MethodName) prog_1_method_23_code (5 : Nat) (Option.some Jvm.ClassFile.FieldType.int)) ∈ lw_all := lw_g (lw_at lw_m7 101 rfl) rfl
theorem q1642 : (Jvm.Cond.instanceMethod ({ cls := "LogCompactor", name := "pattern", desc := "(II)I" } : Jvm.MethodName)) ∈ lw_all := lw_g (lw_at lw_m7 106 rfl) rfl
theorem q1643 : (Jvm.Cond.selects "LogCompactor" ({ cls := "LogCompactor", name := "pattern", desc := "(II)I" } : Jvm.MethodName) ({ cls := "LogCompactor", name := "pattern", desc := "(II)I" } : Jvm.MethodName)) ∈ lw_all := lw_g (lw_at lw_m7 107 rfl) rfl
theorem q1644 : (Jvm.Cond.code ({ cls := "LogCompactor", name := "pattern", desc := "(II)I" } : Jvm.MethodName) prog_1_method_24_code (3 : Nat) (Option.some Jvm.ClassFile.FieldType.int)) ∈ lw_all := lw_g (lw_at lw_m7 108 rfl) rfl
theorem q1645 : (Jvm.Cond.methodLink "LogCompactor" (234 : Nat) ({ cls := "LogCompactor$Template", name := "pattern", desc := "()Ljava/lang/String;" } : Jvm.MethodName)) ∈ lw_all := lw_g (lw_at lw_m7 109 rfl) rfl
theorem q1665 : (Jvm.Cond.instanceMethod ({ cls := "LogCompactor", name := "row", desc := "(II)I" } : Jvm.MethodName)) ∈ lw_all := lw_g (lw_at lw_m7 129 rfl) rfl
theorem q1666 : (Jvm.Cond.selects "LogCompactor" ({ cls := "LogCompactor", name := "row", desc := "(II)I" } : Jvm.MethodName) ({ cls := "LogCompactor", name := "row", desc := "(II)I" } : Jvm.MethodName)) ∈ lw_all := lw_g (lw_at lw_m7 130 rfl) rfl
theorem q1667 : (Jvm.Cond.code ({ cls := "LogCompactor", name := "row", desc := "(II)I" } : Jvm.MethodName) prog_1_method_25_code (4 : Nat) (Option.some Jvm.ClassFile.FieldType.int)) ∈ lw_all := lw_g (lw_at lw_m7 131 rfl) rfl
theorem q1672 : (Jvm.Cond.instanceMethod ({ cls := "LogCompactor", name := "merge", desc := "(II)I" } : Jvm.MethodName)) ∈ lw_all := lw_g (lw_at lw_m7 136 rfl) rfl
theorem q1673 : (Jvm.Cond.selects "LogCompactor" ({ cls := "LogCompactor", name := "merge", desc := "(II)I" } : Jvm.MethodName) ({ cls := "LogCompactor", name := "merge", desc := "(II)I" } : Jvm.MethodName)) ∈ lw_all := lw_g (lw_at lw_m7 137 rfl) rfl
theorem q1674 : (Jvm.Cond.codeWith ({ cls := "LogCompactor", name := "merge", desc := "(II)I" } : Jvm.MethodName) prog_1_method_27_code (5 : Nat) (Option.some Jvm.ClassFile.FieldType.int) [((6 : Nat), (44 : Nat), (45 : Nat), (123 : Nat))]) ∈ lw_all := lw_g (lw_at lw_m7 138 rfl) rfl
theorem q1675 : (Jvm.Cond.methodLink "LogCompactor" (237 : Nat) ({ cls := "LogCompactor", name := "checkPair", desc := "(II)V" } : Jvm.MethodName)) ∈ lw_all := lw_g (lw_at lw_m7 139 rfl) rfl
theorem q1676 : (Jvm.Cond.privateMethod ({ cls := "LogCompactor", name := "checkPair", desc := "(II)V" } : Jvm.MethodName)) ∈ lw_tbl := lw_at lw_m7 140 rfl
theorem q1677 : (Jvm.Cond.instanceMethod ({ cls := "LogCompactor", name := "checkPair", desc := "(II)V" } : Jvm.MethodName)) ∈ lw_all := lw_g (lw_at lw_m7 141 rfl) rfl
theorem q1678 : (Jvm.Cond.code ({ cls := "LogCompactor", name := "checkPair", desc := "(II)V" } : Jvm.MethodName) prog_1_method_26_code (5 : Nat) (Option.none : Option Jvm.ClassFile.FieldType)) ∈ lw_all := lw_g (lw_at lw_m7 142 rfl) rfl
theorem q1679 : (Jvm.Cond.methodLink "LogCompactor" (240 : Nat) ({ cls := "LogCompactor$Log", name := "merge", desc := "(II)I" } : Jvm.MethodName)) ∈ lw_all := lw_g (lw_at lw_m7 143 rfl) rfl
theorem q1684 : (Jvm.Cond.instanceMethod ({ cls := "LogCompactor", name := "split", desc := "(II)I" } : Jvm.MethodName)) ∈ lw_all := lw_g (lw_at lw_m7 148 rfl) rfl
theorem q1685 : (Jvm.Cond.selects "LogCompactor" ({ cls := "LogCompactor", name := "split", desc := "(II)I" } : Jvm.MethodName) ({ cls := "LogCompactor", name := "split", desc := "(II)I" } : Jvm.MethodName)) ∈ lw_all := lw_g (lw_at lw_m7 149 rfl) rfl
theorem q1686 : (Jvm.Cond.codeWith ({ cls := "LogCompactor", name := "split", desc := "(II)I" } : Jvm.MethodName) prog_1_method_28_code (6 : Nat) (Option.some Jvm.ClassFile.FieldType.int) [((34 : Nat), (64 : Nat), (65 : Nat), (123 : Nat))]) ∈ lw_all := lw_g (lw_at lw_m7 150 rfl) rfl
theorem q1687 : (Jvm.Cond.methodLink "LogCompactor" (244 : Nat) ({ cls := "LogCompactor$Log", name := "split", desc := "(II)I" } : Jvm.MethodName)) ∈ lw_all := lw_g (lw_at lw_m7 151 rfl) rfl
theorem q1706 : (Jvm.Cond.instanceMethod ({ cls := "LogCompactor", name := "gain", desc := "(II)I" } : Jvm.MethodName)) ∈ lw_all := lw_g (lw_at lw_m7 170 rfl) rfl
theorem q1707 : (Jvm.Cond.selects "LogCompactor" ({ cls := "LogCompactor", name := "gain", desc := "(II)I" } : Jvm.MethodName) ({ cls := "LogCompactor", name := "gain", desc := "(II)I" } : Jvm.MethodName)) ∈ lw_all := lw_g (lw_at lw_m7 171 rfl) rfl
theorem q1708 : (Jvm.Cond.codeWith ({ cls := "LogCompactor", name := "gain", desc := "(II)I" } : Jvm.MethodName) prog_1_method_29_code (4 : Nat) (Option.some Jvm.ClassFile.FieldType.int) [((6 : Nat), (15 : Nat), (16 : Nat), (123 : Nat))]) ∈ lw_all := lw_g (lw_at lw_m7 172 rfl) rfl
theorem q1709 : (Jvm.Cond.methodLink "LogCompactor" (247 : Nat) ({ cls := "LogCompactor$Log", name := "gain", desc := "(II)I" } : Jvm.MethodName)) ∈ lw_all := lw_g (lw_at lw_m7 173 rfl) rfl
theorem q1714 : (Jvm.Cond.instanceMethod ({ cls := "LogCompactor", name := "column", desc := "(III)I" } : Jvm.MethodName)) ∈ lw_all := lw_g (lw_at lw_m7 178 rfl) rfl
theorem q1715 : (Jvm.Cond.selects "LogCompactor" ({ cls := "LogCompactor", name := "column", desc := "(III)I" } : Jvm.MethodName) ({ cls := "LogCompactor", name := "column", desc := "(III)I" } : Jvm.MethodName)) ∈ lw_all := lw_g (lw_at lw_m7 179 rfl) rfl
theorem q1716 : (Jvm.Cond.code ({ cls := "LogCompactor", name := "column", desc := "(III)I" } : Jvm.MethodName) prog_1_method_31_code (5 : Nat) (Option.some Jvm.ClassFile.FieldType.int)) ∈ lw_all := lw_g (lw_at lw_m7 180 rfl) rfl
theorem q1717 : (Jvm.Cond.methodLink "LogCompactor" (253 : Nat) ({ cls := "LogCompactor", name := "columnAt", desc := "(II)LLogCompactor$Column;" } : Jvm.MethodName)) ∈ lw_all := lw_g (lw_at lw_m7 181 rfl) rfl
theorem q1718 : (Jvm.Cond.privateMethod ({ cls := "LogCompactor", name := "columnAt", desc := "(II)LLogCompactor$Column;" } : Jvm.MethodName)) ∈ lw_tbl := lw_at lw_m7 182 rfl
theorem q1719 : (Jvm.Cond.instanceMethod ({ cls := "LogCompactor", name := "columnAt", desc := "(II)LLogCompactor$Column;" } : Jvm.MethodName)) ∈ lw_all := lw_g (lw_at lw_m7 183 rfl) rfl
theorem q1720 : (Jvm.Cond.code ({ cls := "LogCompactor", name := "columnAt", desc := "(II)LLogCompactor$Column;" } : Jvm.MethodName) prog_1_method_9_code (4 : Nat) (Option.some (Jvm.ClassFile.FieldType.object "LogCompactor$Column"))) ∈ lw_all := lw_g (lw_at lw_m7 184 rfl) rfl
theorem q1721 : (Jvm.Cond.methodLink "LogCompactor" (83 : Nat) ({ cls := "LogCompactor$Template", name := "tokenOf", desc := "(I)I" } : Jvm.MethodName)) ∈ lw_all := lw_g (lw_at lw_m7 185 rfl) rfl
theorem q1722 : (Jvm.Cond.methodLink "LogCompactor" (257 : Nat) ({ cls := "LogCompactor$Column", name := "different", desc := "()I" } : Jvm.MethodName)) ∈ lw_all := lw_g (lw_at lw_m7 186 rfl) rfl
theorem q1723 : (Jvm.Cond.methodLink "LogCompactor" (260 : Nat) ({ cls := "LogCompactor$Column", name := "runs", desc := "()I" } : Jvm.MethodName)) ∈ lw_all := lw_g (lw_at lw_m7 187 rfl) rfl
theorem q1727 : (Jvm.Cond.methodLink "LogCompactor" (263 : Nat) ({ cls := "LogCompactor$Column", name := "bestWay", desc := "()I" } : Jvm.MethodName)) ∈ lw_all := lw_g (lw_at lw_m7 191 rfl) rfl
theorem q1728 : (Jvm.Cond.methodLink "LogCompactor" (266 : Nat) ({ cls := "LogCompactor$Column", name := "leastCost", desc := "()I" } : Jvm.MethodName)) ∈ lw_all := lw_g (lw_at lw_m7 192 rfl) rfl
theorem q1733 : (Jvm.Cond.instanceMethod ({ cls := "LogCompactor", name := "cost", desc := "(III)I" } : Jvm.MethodName)) ∈ lw_all := lw_g (lw_at lw_m7 197 rfl) rfl
theorem q1734 : (Jvm.Cond.selects "LogCompactor" ({ cls := "LogCompactor", name := "cost", desc := "(III)I" } : Jvm.MethodName) ({ cls := "LogCompactor", name := "cost", desc := "(III)I" } : Jvm.MethodName)) ∈ lw_all := lw_g (lw_at lw_m7 198 rfl) rfl
theorem q1735 : (Jvm.Cond.code ({ cls := "LogCompactor", name := "cost", desc := "(III)I" } : Jvm.MethodName) prog_1_method_32_code (5 : Nat) (Option.some Jvm.ClassFile.FieldType.int)) ∈ lw_all := lw_g (lw_at lw_m7 199 rfl) rfl
theorem q1736 : (Jvm.Cond.methodLink "LogCompactor" (269 : Nat) ({ cls := "LogCompactor$Column", name := "cost", desc := "(I)I" } : Jvm.MethodName)) ∈ lw_all := lw_g (lw_at lw_m7 200 rfl) rfl
theorem q1741 : (Jvm.Cond.instanceMethod ({ cls := "LogCompactor", name := "code", desc := "(III)I" } : Jvm.MethodName)) ∈ lw_all := lw_g (lw_at lw_m7 205 rfl) rfl
theorem q1742 : (Jvm.Cond.selects "LogCompactor" ({ cls := "LogCompactor", name := "code", desc := "(III)I" } : Jvm.MethodName) ({ cls := "LogCompactor", name := "code", desc := "(III)I" } : Jvm.MethodName)) ∈ lw_all := lw_g (lw_at lw_m7 206 rfl) rfl
theorem q1743 : (Jvm.Cond.code ({ cls := "LogCompactor", name := "code", desc := "(III)I" } : Jvm.MethodName) prog_1_method_33_code (5 : Nat) (Option.some Jvm.ClassFile.FieldType.int)) ∈ lw_all := lw_g (lw_at lw_m7 207 rfl) rfl
theorem q1744 : (Jvm.Cond.methodLink "LogCompactor" (273 : Nat) ({ cls := "LogCompactor$Column", name := "code", desc := "(I)I" } : Jvm.MethodName)) ∈ lw_all := lw_g (lw_at lw_m7 208 rfl) rfl
theorem q1753 : (Jvm.Cond.instanceMethod ({ cls := "LogCompactor", name := "value", desc := "(III)I" } : Jvm.MethodName)) ∈ lw_all := lw_g (lw_at lw_m7 217 rfl) rfl
theorem q1754 : (Jvm.Cond.selects "LogCompactor" ({ cls := "LogCompactor", name := "value", desc := "(III)I" } : Jvm.MethodName) ({ cls := "LogCompactor", name := "value", desc := "(III)I" } : Jvm.MethodName)) ∈ lw_all := lw_g (lw_at lw_m7 218 rfl) rfl
theorem q1755 : (Jvm.Cond.code ({ cls := "LogCompactor", name := "value", desc := "(III)I" } : Jvm.MethodName) prog_1_method_34_code (5 : Nat) (Option.some Jvm.ClassFile.FieldType.int)) ∈ lw_all := lw_g (lw_at lw_m7 219 rfl) rfl
theorem q1756 : (Jvm.Cond.classLink "LogCompactor" (277 : Nat) "java/util/NoSuchElementException") ∈ lw_all := lw_g (lw_at lw_m7 220 rfl) rfl
theorem q1757 : (Jvm.Cond.methodLink "LogCompactor" (279 : Nat) ({ cls := "java/util/NoSuchElementException", name := "<init>", desc := "()V" } : Jvm.MethodName)) ∈ lw_all := lw_g (lw_at lw_m7 221 rfl) rfl
theorem q1758 : (Jvm.Cond.methodLink "LogCompactor" (280 : Nat) ({ cls := "LogCompactor$Token", name := "number", desc := "()I" } : Jvm.MethodName)) ∈ lw_all := lw_g (lw_at lw_m7 222 rfl) rfl
theorem q1763 : (Jvm.Cond.instanceMethod ({ cls := "LogCompactor", name := "sum", desc := "(II)J" } : Jvm.MethodName)) ∈ lw_all := lw_g (lw_at lw_m7 227 rfl) rfl
theorem q1764 : (Jvm.Cond.selects "LogCompactor" ({ cls := "LogCompactor", name := "sum", desc := "(II)J" } : Jvm.MethodName) ({ cls := "LogCompactor", name := "sum", desc := "(II)J" } : Jvm.MethodName)) ∈ lw_all := lw_g (lw_at lw_m7 228 rfl) rfl
theorem q1765 : (Jvm.Cond.code ({ cls := "LogCompactor", name := "sum", desc := "(II)J" } : Jvm.MethodName) prog_1_method_35_code (7 : Nat) (Option.some Jvm.ClassFile.FieldType.long)) ∈ lw_all := lw_g (lw_at lw_m7 229 rfl) rfl
theorem q1784 : (Jvm.Cond.instanceMethod ({ cls := "LogCompactor", name := "ratio", desc := "()D" } : Jvm.MethodName)) ∈ lw_all := lw_g (lw_at lw_m8 8 rfl) rfl
theorem q1785 : (Jvm.Cond.selects "LogCompactor" ({ cls := "LogCompactor", name := "ratio", desc := "()D" } : Jvm.MethodName) ({ cls := "LogCompactor", name := "ratio", desc := "()D" } : Jvm.MethodName)) ∈ lw_all := lw_g (lw_at lw_m8 9 rfl) rfl
theorem q1786 : (Jvm.Cond.code ({ cls := "LogCompactor", name := "ratio", desc := "()D" } : Jvm.MethodName) prog_1_method_36_code (1 : Nat) (Option.some Jvm.ClassFile.FieldType.double)) ∈ lw_all := lw_g (lw_at lw_m8 10 rfl) rfl
theorem q1787 : (Jvm.Cond.methodLink "LogCompactor" (283 : Nat) ({ cls := "java/util/ArrayList", name := "isEmpty", desc := "()Z" } : Jvm.MethodName)) ∈ lw_all := lw_g (lw_at lw_m8 11 rfl) rfl
theorem q1788 : (Jvm.Cond.classLink "LogCompactor" (286 : Nat) "java/lang/ArithmeticException") ∈ lw_all := lw_g (lw_at lw_m8 12 rfl) rfl
theorem q1789 : (Jvm.Cond.methodLink "LogCompactor" (288 : Nat) ({ cls := "java/lang/ArithmeticException", name := "<init>", desc := "()V" } : Jvm.MethodName)) ∈ lw_all := lw_g (lw_at lw_m8 13 rfl) rfl
theorem q1797 : (Jvm.Cond.instanceMethod ({ cls := "LogCompactor", name := "hit", desc := "(I)I" } : Jvm.MethodName)) ∈ lw_all := lw_g (lw_at lw_m8 21 rfl) rfl
theorem q1798 : (Jvm.Cond.selects "LogCompactor" ({ cls := "LogCompactor", name := "hit", desc := "(I)I" } : Jvm.MethodName) ({ cls := "LogCompactor", name := "hit", desc := "(I)I" } : Jvm.MethodName)) ∈ lw_all := lw_g (lw_at lw_m8 22 rfl) rfl
theorem q1799 : (Jvm.Cond.code ({ cls := "LogCompactor", name := "hit", desc := "(I)I" } : Jvm.MethodName) prog_1_method_41_code (4 : Nat) (Option.some Jvm.ClassFile.FieldType.int)) ∈ lw_all := lw_g (lw_at lw_m8 23 rfl) rfl
theorem q1800 : (Jvm.Cond.methodLink "LogCompactor" (319 : Nat) ({ cls := "LogCompactor", name := "checkQuery", desc := "()V" } : Jvm.MethodName)) ∈ lw_all := lw_g (lw_at lw_m8 24 rfl) rfl
theorem q1801 : (Jvm.Cond.privateMethod ({ cls := "LogCompactor", name := "checkQuery", desc := "()V" } : Jvm.MethodName)) ∈ lw_tbl := lw_at lw_m8 25 rfl
theorem q1802 : (Jvm.Cond.instanceMethod ({ cls := "LogCompactor", name := "checkQuery", desc := "()V" } : Jvm.MethodName)) ∈ lw_all := lw_g (lw_at lw_m8 26 rfl) rfl
theorem q1803 : (Jvm.Cond.code ({ cls := "LogCompactor", name := "checkQuery", desc := "()V" } : Jvm.MethodName) prog_1_method_40_code (1 : Nat) (Option.none : Option Jvm.ClassFile.FieldType)) ∈ lw_all := lw_g (lw_at lw_m8 27 rfl) rfl
theorem q1808 : (Jvm.Cond.instanceMethod ({ cls := "LogCompactor", name := "excluded", desc := "(I)I" } : Jvm.MethodName)) ∈ lw_all := lw_g (lw_at lw_m8 32 rfl) rfl
theorem q1809 : (Jvm.Cond.selects "LogCompactor" ({ cls := "LogCompactor", name := "excluded", desc := "(I)I" } : Jvm.MethodName) ({ cls := "LogCompactor", name := "excluded", desc := "(I)I" } : Jvm.MethodName)) ∈ lw_all := lw_g (lw_at lw_m8 33 rfl) rfl
theorem q1810 : (Jvm.Cond.code ({ cls := "LogCompactor", name := "excluded", desc := "(I)I" } : Jvm.MethodName) prog_1_method_42_code (2 : Nat) (Option.some Jvm.ClassFile.FieldType.int)) ∈ lw_all := lw_g (lw_at lw_m8 34 rfl) rfl
theorem q1815 : (Jvm.Cond.instanceMethod ({ cls := "LogCompactor", name := "report", desc := "(II)I" } : Jvm.MethodName)) ∈ lw_all := lw_g (lw_at lw_m8 39 rfl) rfl
theorem q1816 : (Jvm.Cond.selects "LogCompactor" ({ cls := "LogCompactor", name := "report", desc := "(II)I" } : Jvm.MethodName) ({ cls := "LogCompactor", name := "report", desc := "(II)I" } : Jvm.MethodName)) ∈ lw_all := lw_g (lw_at lw_m8 40 rfl) rfl
theorem q1817 : (Jvm.Cond.code ({ cls := "LogCompactor", name := "report", desc := "(II)I" } : Jvm.MethodName) prog_1_method_43_code (4 : Nat) (Option.some Jvm.ClassFile.FieldType.int)) ∈ lw_all := lw_g (lw_at lw_m8 41 rfl) rfl
theorem q1818 : (Jvm.Cond.methodLink "LogCompactor" (322 : Nat) ({ cls := "LogCompactor$RefusedException", name := "at", desc := "(I)LLogCompactor$RefusedException;" } : Jvm.MethodName)) ∈ lw_all := lw_g (lw_at lw_m8 42 rfl) rfl
theorem q1836 : (Jvm.Cond.methodLink "LogCompactor" (325 : Nat) ({ cls := "LogCompactor$RefusedException", name := "part", desc := "(I)I" } : Jvm.MethodName)) ∈ lw_all := lw_g (lw_at lw_m8 60 rfl) rfl
theorem q1844 : (Jvm.Cond.instanceMethod ({ cls := "LogCompactor", name := "undo", desc := "()I" } : Jvm.MethodName)) ∈ lw_all := lw_g (lw_at lw_m8 68 rfl) rfl
theorem q1845 : (Jvm.Cond.selects "LogCompactor" ({ cls := "LogCompactor", name := "undo", desc := "()I" } : Jvm.MethodName) ({ cls := "LogCompactor", name := "undo", desc := "()I" } : Jvm.MethodName)) ∈ lw_all := lw_g (lw_at lw_m8 69 rfl) rfl
theorem q1846 : (Jvm.Cond.code ({ cls := "LogCompactor", name := "undo", desc := "()I" } : Jvm.MethodName) prog_1_method_44_code (1 : Nat) (Option.some Jvm.ClassFile.FieldType.int)) ∈ lw_all := lw_g (lw_at lw_m8 70 rfl) rfl
theorem q1851 : (Jvm.Cond.instanceMethod ({ cls := "LogCompactor", name := "restore", desc := "()I" } : Jvm.MethodName)) ∈ lw_all := lw_g (lw_at lw_m8 75 rfl) rfl
theorem q1852 : (Jvm.Cond.selects "LogCompactor" ({ cls := "LogCompactor", name := "restore", desc := "()I" } : Jvm.MethodName) ({ cls := "LogCompactor", name := "restore", desc := "()I" } : Jvm.MethodName)) ∈ lw_all := lw_g (lw_at lw_m8 76 rfl) rfl
theorem q1853 : (Jvm.Cond.code ({ cls := "LogCompactor", name := "restore", desc := "()I" } : Jvm.MethodName) prog_1_method_46_code (1 : Nat) (Option.some Jvm.ClassFile.FieldType.int)) ∈ lw_all := lw_g (lw_at lw_m8 77 rfl) rfl
theorem q1854 : (Jvm.Cond.methodLink "LogCompactor" (331 : Nat) ({ cls := "java/util/ArrayList", name := "clear", desc := "()V" } : Jvm.MethodName)) ∈ lw_all := lw_g (lw_at lw_m8 78 rfl) rfl
theorem q2326 : (Jvm.Cond.castable "LogCompactor" "java/lang/Object") ∈ lw_tbl := lw_at lw_m10 70 rfl
theorem in_X1 : ∀ w ∈ wsX10, w ∈ lw_all := lw_in wsX10 [233, 235, 237, 239, 241, 243, 245] (by decide +kernel) (by decide +kernel)
/-! LogCompactor$Log -/
set_option maxRecDepth 100000
def RX2 : String := "LogCompactor$Log"
def TX2 : u_T := fun k => match k with
  | 0 => ("LogCompactor$Log", "lines", "Ljava/util/ArrayList;", true)
  | 1 => ("LogCompactor$Log", "templates", "[LLogCompactor$Template;", true)
  | 2 => ("LogCompactor$Log", "threshold", "I", false)
  | _ => ("LogCompactor$Log", "column", "LLogCompactor$Column;", true)
def tyX2 : Nat → FieldType := fun k => match k with
  | 0 => .object "java/util/ArrayList"
  | 1 => .array (.object "LogCompactor$Template")
  | 2 => .int
  | _ => .object "LogCompactor$Column"
abbrev wsX20 : List Cond := u_ws RX2 TX2 4
theorem nmX2 : ∀ a, a < 4 → ∀ b, b < 4 → a ≠ b → (TX2 a).2.1 ≠ (TX2 b).2.1 := by decide +kernel
theorem tyX2_ok : ∀ k, k < 4 → parseFieldDescriptor (TX2 k).2.2.1 = some (tyX2 k) := by decide +kernel
abbrev cX2_init : ByteArray := prog_6_method_1_code
def yX2_init : MethodName := ⟨RX2, "<init>", "()V"⟩
def dkwX2_init_1 : List UInt8 := [42, 16, 50, 181, 0, 24, 42, 187, 0, 28, 89, 183, 0, 30, 181, 0, 31, 177]
abbrev dktX2_init_1 : List UInt8 := dkwX2_init_1 ++ []
def dkwX2_init_0 : List UInt8 := [42, 183, 0, 3, 42, 187, 0, 9, 89, 183, 0, 11, 181, 0, 12, 42, 16, 12, 189, 0, 18, 181, 0, 20]
abbrev dktX2_init_0 : List UInt8 := dkwX2_init_0 ++ dktX2_init_1
theorem dksX2_init_0 : cX2_init.data.toList.drop 0 = dktX2_init_0 := by decide +kernel
theorem dksX2_init_1 : cX2_init.data.toList.drop 24 = dktX2_init_1 := dk_seg dksX2_init_0 24 rfl rfl
theorem dX2_init_0 : decode cX2_init 0 = .ok (.aload_n 0, 1) := dk_42 (dk_at dksX2_init_0 0 rfl rfl)
theorem dX2_init_1 : decode cX2_init 1 = .ok (.invokespecial 3, 3) := dk_183 0 3 (dk_at dksX2_init_0 1 rfl rfl)
theorem dX2_init_4 : decode cX2_init 4 = .ok (.aload_n 0, 1) := dk_42 (dk_at dksX2_init_0 4 rfl rfl)
theorem dX2_init_5 : decode cX2_init 5 = .ok (.new 9, 3) := dk_187 0 9 (dk_at dksX2_init_0 5 rfl rfl)
theorem dX2_init_8 : decode cX2_init 8 = .ok (.dup, 1) := dk_89 (dk_at dksX2_init_0 8 rfl rfl)
theorem dX2_init_9 : decode cX2_init 9 = .ok (.invokespecial 11, 3) := dk_183 0 11 (dk_at dksX2_init_0 9 rfl rfl)
theorem dX2_init_12 : decode cX2_init 12 = .ok (.putfield 12, 3) := dk_181 0 12 (dk_at dksX2_init_0 12 rfl rfl)
theorem dX2_init_15 : decode cX2_init 15 = .ok (.aload_n 0, 1) := dk_42 (dk_at dksX2_init_0 15 rfl rfl)
theorem dX2_init_16 : decode cX2_init 16 = .ok (.bipush 12, 2) := dk_16 12 (dk_at dksX2_init_0 16 rfl rfl)
theorem dX2_init_18 : decode cX2_init 18 = .ok (.anewarray 18, 3) := dk_189 0 18 (dk_at dksX2_init_0 18 rfl rfl)
theorem dX2_init_21 : decode cX2_init 21 = .ok (.putfield 20, 3) := dk_181 0 20 (dk_at dksX2_init_0 21 rfl rfl)
theorem dX2_init_24 : decode cX2_init 24 = .ok (.aload_n 0, 1) := dk_42 (dk_at dksX2_init_1 0 rfl rfl)
theorem dX2_init_25 : decode cX2_init 25 = .ok (.bipush 50, 2) := dk_16 50 (dk_at dksX2_init_1 1 rfl rfl)
theorem dX2_init_27 : decode cX2_init 27 = .ok (.putfield 24, 3) := dk_181 0 24 (dk_at dksX2_init_1 3 rfl rfl)
theorem dX2_init_30 : decode cX2_init 30 = .ok (.aload_n 0, 1) := dk_42 (dk_at dksX2_init_1 6 rfl rfl)
theorem dX2_init_31 : decode cX2_init 31 = .ok (.new 28, 3) := dk_187 0 28 (dk_at dksX2_init_1 7 rfl rfl)
theorem dX2_init_34 : decode cX2_init 34 = .ok (.dup, 1) := dk_89 (dk_at dksX2_init_1 10 rfl rfl)
theorem dX2_init_35 : decode cX2_init 35 = .ok (.invokespecial 30, 3) := dk_183 0 30 (dk_at dksX2_init_1 11 rfl rfl)
theorem dX2_init_38 : decode cX2_init 38 = .ok (.putfield 31, 3) := dk_181 0 31 (dk_at dksX2_init_1 14 rfl rfl)
theorem dX2_init_41 : decode cX2_init 41 = .ok (.return_, 1) := dk_177 (dk_at dksX2_init_1 17 rfl rfl)
abbrev cX2_init_2 : ByteArray := prog_6_method_2_code
def yX2_init_2 : MethodName := ⟨RX2, "<init>", "(LLogCompactor$Log;)V"⟩
def dkwX2_init_2_4 : List UInt8 := [42, 43, 180, 0, 24, 181, 0, 24, 177]
abbrev dktX2_init_2_4 : List UInt8 := dkwX2_init_2_4 ++ []
def dkwX2_init_2_3 : List UInt8 := [45, 182, 0, 51, 54, 4, 167, 255, 227, 43, 180, 0, 20, 3, 42, 180, 0, 20, 3, 16, 12, 184, 0, 55]
abbrev dktX2_init_2_3 : List UInt8 := dkwX2_init_2_3 ++ dktX2_init_2_4
def dkwX2_init_2_2 : List UInt8 := [77, 44, 185, 0, 39, 1, 0, 153, 0, 26, 44, 185, 0, 45, 1, 0, 192, 0, 49, 78, 42, 180, 0, 12]
abbrev dktX2_init_2_2 : List UInt8 := dkwX2_init_2_2 ++ dktX2_init_2_3
def dkwX2_init_2_1 : List UInt8 := [42, 16, 50, 181, 0, 24, 42, 187, 0, 28, 89, 183, 0, 30, 181, 0, 31, 43, 180, 0, 12, 182, 0, 35]
abbrev dktX2_init_2_1 : List UInt8 := dkwX2_init_2_1 ++ dktX2_init_2_2
def dkwX2_init_2_0 : List UInt8 := [42, 183, 0, 3, 42, 187, 0, 9, 89, 183, 0, 11, 181, 0, 12, 42, 16, 12, 189, 0, 18, 181, 0, 20]
abbrev dktX2_init_2_0 : List UInt8 := dkwX2_init_2_0 ++ dktX2_init_2_1
theorem dksX2_init_2_0 : cX2_init_2.data.toList.drop 0 = dktX2_init_2_0 := by decide +kernel
theorem dksX2_init_2_1 : cX2_init_2.data.toList.drop 24 = dktX2_init_2_1 := dk_seg dksX2_init_2_0 24 rfl rfl
theorem dksX2_init_2_2 : cX2_init_2.data.toList.drop 48 = dktX2_init_2_2 := dk_seg dksX2_init_2_1 24 rfl rfl
theorem dksX2_init_2_3 : cX2_init_2.data.toList.drop 72 = dktX2_init_2_3 := dk_seg dksX2_init_2_2 24 rfl rfl
theorem dksX2_init_2_4 : cX2_init_2.data.toList.drop 96 = dktX2_init_2_4 := dk_seg dksX2_init_2_3 24 rfl rfl
theorem dX2_init_2_0 : decode cX2_init_2 0 = .ok (.aload_n 0, 1) := dk_42 (dk_at dksX2_init_2_0 0 rfl rfl)
theorem dX2_init_2_1 : decode cX2_init_2 1 = .ok (.invokespecial 3, 3) := dk_183 0 3 (dk_at dksX2_init_2_0 1 rfl rfl)
theorem dX2_init_2_4 : decode cX2_init_2 4 = .ok (.aload_n 0, 1) := dk_42 (dk_at dksX2_init_2_0 4 rfl rfl)
theorem dX2_init_2_5 : decode cX2_init_2 5 = .ok (.new 9, 3) := dk_187 0 9 (dk_at dksX2_init_2_0 5 rfl rfl)
theorem dX2_init_2_8 : decode cX2_init_2 8 = .ok (.dup, 1) := dk_89 (dk_at dksX2_init_2_0 8 rfl rfl)
theorem dX2_init_2_9 : decode cX2_init_2 9 = .ok (.invokespecial 11, 3) := dk_183 0 11 (dk_at dksX2_init_2_0 9 rfl rfl)
theorem dX2_init_2_12 : decode cX2_init_2 12 = .ok (.putfield 12, 3) := dk_181 0 12 (dk_at dksX2_init_2_0 12 rfl rfl)
theorem dX2_init_2_15 : decode cX2_init_2 15 = .ok (.aload_n 0, 1) := dk_42 (dk_at dksX2_init_2_0 15 rfl rfl)
theorem dX2_init_2_16 : decode cX2_init_2 16 = .ok (.bipush 12, 2) := dk_16 12 (dk_at dksX2_init_2_0 16 rfl rfl)
theorem dX2_init_2_18 : decode cX2_init_2 18 = .ok (.anewarray 18, 3) := dk_189 0 18 (dk_at dksX2_init_2_0 18 rfl rfl)
theorem dX2_init_2_21 : decode cX2_init_2 21 = .ok (.putfield 20, 3) := dk_181 0 20 (dk_at dksX2_init_2_0 21 rfl rfl)
theorem dX2_init_2_24 : decode cX2_init_2 24 = .ok (.aload_n 0, 1) := dk_42 (dk_at dksX2_init_2_1 0 rfl rfl)
theorem dX2_init_2_25 : decode cX2_init_2 25 = .ok (.bipush 50, 2) := dk_16 50 (dk_at dksX2_init_2_1 1 rfl rfl)
theorem dX2_init_2_27 : decode cX2_init_2 27 = .ok (.putfield 24, 3) := dk_181 0 24 (dk_at dksX2_init_2_1 3 rfl rfl)
theorem dX2_init_2_30 : decode cX2_init_2 30 = .ok (.aload_n 0, 1) := dk_42 (dk_at dksX2_init_2_1 6 rfl rfl)
theorem dX2_init_2_31 : decode cX2_init_2 31 = .ok (.new 28, 3) := dk_187 0 28 (dk_at dksX2_init_2_1 7 rfl rfl)
theorem dX2_init_2_34 : decode cX2_init_2 34 = .ok (.dup, 1) := dk_89 (dk_at dksX2_init_2_1 10 rfl rfl)
theorem dX2_init_2_35 : decode cX2_init_2 35 = .ok (.invokespecial 30, 3) := dk_183 0 30 (dk_at dksX2_init_2_1 11 rfl rfl)
theorem dX2_init_2_38 : decode cX2_init_2 38 = .ok (.putfield 31, 3) := dk_181 0 31 (dk_at dksX2_init_2_1 14 rfl rfl)
theorem dX2_init_2_41 : decode cX2_init_2 41 = .ok (.aload_n 1, 1) := dk_43 (dk_at dksX2_init_2_1 17 rfl rfl)
theorem dX2_init_2_42 : decode cX2_init_2 42 = .ok (.getfield 12, 3) := dk_180 0 12 (dk_at dksX2_init_2_1 18 rfl rfl)
theorem dX2_init_2_45 : decode cX2_init_2 45 = .ok (.invokevirtual 35, 3) := dk_182 0 35 (dk_at dksX2_init_2_1 21 rfl rfl)
theorem dX2_init_2_48 : decode cX2_init_2 48 = .ok (.astore_n 2, 1) := dk_77 (dk_at dksX2_init_2_2 0 rfl rfl)
theorem dX2_init_2_49 : decode cX2_init_2 49 = .ok (.aload_n 2, 1) := dk_44 (dk_at dksX2_init_2_2 1 rfl rfl)
theorem dX2_init_2_50 : decode cX2_init_2 50 = .ok (.invokeinterface 39 1, 5) := by decide +kernel
theorem dX2_init_2_55 : decode cX2_init_2 55 = .ok (.ifCond .eq 26, 3) := dk_153 0 26 (dk_at dksX2_init_2_2 7 rfl rfl)
theorem dX2_init_2_58 : decode cX2_init_2 58 = .ok (.aload_n 2, 1) := dk_44 (dk_at dksX2_init_2_2 10 rfl rfl)
theorem dX2_init_2_59 : decode cX2_init_2 59 = .ok (.invokeinterface 45 1, 5) := by decide +kernel
theorem dX2_init_2_64 : decode cX2_init_2 64 = .ok (.checkcast 49, 3) := dk_192 0 49 (dk_at dksX2_init_2_2 16 rfl rfl)
theorem dX2_init_2_67 : decode cX2_init_2 67 = .ok (.astore_n 3, 1) := dk_78 (dk_at dksX2_init_2_2 19 rfl rfl)
theorem dX2_init_2_68 : decode cX2_init_2 68 = .ok (.aload_n 0, 1) := dk_42 (dk_at dksX2_init_2_2 20 rfl rfl)
theorem dX2_init_2_69 : decode cX2_init_2 69 = .ok (.getfield 12, 3) := dk_180 0 12 (dk_at dksX2_init_2_2 21 rfl rfl)
theorem dX2_init_2_72 : decode cX2_init_2 72 = .ok (.aload_n 3, 1) := dk_45 (dk_at dksX2_init_2_3 0 rfl rfl)
theorem dX2_init_2_73 : decode cX2_init_2 73 = .ok (.invokevirtual 51, 3) := dk_182 0 51 (dk_at dksX2_init_2_3 1 rfl rfl)
theorem dX2_init_2_76 : decode cX2_init_2 76 = .ok (.istore 4, 2) := dk_54 4 (dk_at dksX2_init_2_3 4 rfl rfl)
theorem dX2_init_2_78 : decode cX2_init_2 78 = .ok (.goto (-29), 3) := dk_167 255 227 (dk_at dksX2_init_2_3 6 rfl rfl)
theorem dX2_init_2_81 : decode cX2_init_2 81 = .ok (.aload_n 1, 1) := dk_43 (dk_at dksX2_init_2_3 9 rfl rfl)
theorem dX2_init_2_82 : decode cX2_init_2 82 = .ok (.getfield 20, 3) := dk_180 0 20 (dk_at dksX2_init_2_3 10 rfl rfl)
theorem dX2_init_2_85 : decode cX2_init_2 85 = .ok (.iconst 0, 1) := dk_3 (dk_at dksX2_init_2_3 13 rfl rfl)
theorem dX2_init_2_86 : decode cX2_init_2 86 = .ok (.aload_n 0, 1) := dk_42 (dk_at dksX2_init_2_3 14 rfl rfl)
theorem dX2_init_2_87 : decode cX2_init_2 87 = .ok (.getfield 20, 3) := dk_180 0 20 (dk_at dksX2_init_2_3 15 rfl rfl)
theorem dX2_init_2_90 : decode cX2_init_2 90 = .ok (.iconst 0, 1) := dk_3 (dk_at dksX2_init_2_3 18 rfl rfl)
theorem dX2_init_2_91 : decode cX2_init_2 91 = .ok (.bipush 12, 2) := dk_16 12 (dk_at dksX2_init_2_3 19 rfl rfl)
theorem dX2_init_2_93 : decode cX2_init_2 93 = .ok (.invokestatic 55, 3) := dk_184 0 55 (dk_at dksX2_init_2_3 21 rfl rfl)
theorem dX2_init_2_96 : decode cX2_init_2 96 = .ok (.aload_n 0, 1) := dk_42 (dk_at dksX2_init_2_4 0 rfl rfl)
theorem dX2_init_2_97 : decode cX2_init_2 97 = .ok (.aload_n 1, 1) := dk_43 (dk_at dksX2_init_2_4 1 rfl rfl)
theorem dX2_init_2_98 : decode cX2_init_2 98 = .ok (.getfield 24, 3) := dk_180 0 24 (dk_at dksX2_init_2_4 2 rfl rfl)
theorem dX2_init_2_101 : decode cX2_init_2 101 = .ok (.putfield 24, 3) := dk_181 0 24 (dk_at dksX2_init_2_4 5 rfl rfl)
theorem dX2_init_2_104 : decode cX2_init_2 104 = .ok (.return_, 1) := dk_177 (dk_at dksX2_init_2_4 8 rfl rfl)
abbrev cX2_compactOnce : ByteArray := prog_6_method_18_code
def yX2_compactOnce : MethodName := ⟨RX2, "compactOnce", "()Z"⟩
def dkwX2_compactOnce_3 : List UInt8 := [29, 182, 0, 215, 28, 160, 0, 7, 4, 167, 0, 4, 3, 172]
abbrev dktX2_compactOnce_3 : List UInt8 := dkwX2_compactOnce_3 ++ []
def dkwX2_compactOnce_2 : List UInt8 := [21, 4, 61, 21, 5, 62, 132, 5, 1, 167, 255, 221, 132, 4, 1, 167, 255, 202, 27, 158, 0, 17, 42, 28]
abbrev dktX2_compactOnce_2 : List UInt8 := dkwX2_compactOnce_2 ++ dktX2_compactOnce_3
def dkwX2_compactOnce_1 : List UInt8 := [16, 12, 162, 0, 34, 42, 21, 4, 21, 5, 182, 0, 212, 54, 6, 21, 6, 27, 164, 0, 12, 21, 6, 60]
abbrev dktX2_compactOnce_1 : List UInt8 := dkwX2_compactOnce_1 ++ dktX2_compactOnce_2
def dkwX2_compactOnce_0 : List UInt8 := [3, 60, 2, 61, 2, 62, 3, 54, 4, 21, 4, 16, 12, 162, 0, 53, 21, 4, 4, 96, 54, 5, 21, 5]
abbrev dktX2_compactOnce_0 : List UInt8 := dkwX2_compactOnce_0 ++ dktX2_compactOnce_1
theorem dksX2_compactOnce_0 : cX2_compactOnce.data.toList.drop 0 = dktX2_compactOnce_0 := by decide +kernel
theorem dksX2_compactOnce_1 : cX2_compactOnce.data.toList.drop 24 = dktX2_compactOnce_1 := dk_seg dksX2_compactOnce_0 24 rfl rfl
theorem dksX2_compactOnce_2 : cX2_compactOnce.data.toList.drop 48 = dktX2_compactOnce_2 := dk_seg dksX2_compactOnce_1 24 rfl rfl
theorem dksX2_compactOnce_3 : cX2_compactOnce.data.toList.drop 72 = dktX2_compactOnce_3 := dk_seg dksX2_compactOnce_2 24 rfl rfl
theorem dX2_compactOnce_0 : decode cX2_compactOnce 0 = .ok (.iconst 0, 1) := dk_3 (dk_at dksX2_compactOnce_0 0 rfl rfl)
theorem dX2_compactOnce_1 : decode cX2_compactOnce 1 = .ok (.istore_n 1, 1) := dk_60 (dk_at dksX2_compactOnce_0 1 rfl rfl)
theorem dX2_compactOnce_2 : decode cX2_compactOnce 2 = .ok (.iconst (-1), 1) := dk_2 (dk_at dksX2_compactOnce_0 2 rfl rfl)
theorem dX2_compactOnce_3 : decode cX2_compactOnce 3 = .ok (.istore_n 2, 1) := dk_61 (dk_at dksX2_compactOnce_0 3 rfl rfl)
theorem dX2_compactOnce_4 : decode cX2_compactOnce 4 = .ok (.iconst (-1), 1) := dk_2 (dk_at dksX2_compactOnce_0 4 rfl rfl)
theorem dX2_compactOnce_5 : decode cX2_compactOnce 5 = .ok (.istore_n 3, 1) := dk_62 (dk_at dksX2_compactOnce_0 5 rfl rfl)
theorem dX2_compactOnce_6 : decode cX2_compactOnce 6 = .ok (.iconst 0, 1) := dk_3 (dk_at dksX2_compactOnce_0 6 rfl rfl)
theorem dX2_compactOnce_7 : decode cX2_compactOnce 7 = .ok (.istore 4, 2) := dk_54 4 (dk_at dksX2_compactOnce_0 7 rfl rfl)
theorem dX2_compactOnce_9 : decode cX2_compactOnce 9 = .ok (.iload 4, 2) := dk_21 4 (dk_at dksX2_compactOnce_0 9 rfl rfl)
theorem dX2_compactOnce_11 : decode cX2_compactOnce 11 = .ok (.bipush 12, 2) := dk_16 12 (dk_at dksX2_compactOnce_0 11 rfl rfl)
theorem dX2_compactOnce_13 : decode cX2_compactOnce 13 = .ok (.if_icmp .ge 53, 3) := dk_162 0 53 (dk_at dksX2_compactOnce_0 13 rfl rfl)
theorem dX2_compactOnce_16 : decode cX2_compactOnce 16 = .ok (.iload 4, 2) := dk_21 4 (dk_at dksX2_compactOnce_0 16 rfl rfl)
theorem dX2_compactOnce_18 : decode cX2_compactOnce 18 = .ok (.iconst 1, 1) := dk_4 (dk_at dksX2_compactOnce_0 18 rfl rfl)
theorem dX2_compactOnce_19 : decode cX2_compactOnce 19 = .ok (.iadd, 1) := dk_96 (dk_at dksX2_compactOnce_0 19 rfl rfl)
theorem dX2_compactOnce_20 : decode cX2_compactOnce 20 = .ok (.istore 5, 2) := dk_54 5 (dk_at dksX2_compactOnce_0 20 rfl rfl)
theorem dX2_compactOnce_22 : decode cX2_compactOnce 22 = .ok (.iload 5, 2) := dk_21 5 (dk_at dksX2_compactOnce_0 22 rfl rfl)
theorem dX2_compactOnce_24 : decode cX2_compactOnce 24 = .ok (.bipush 12, 2) := dk_16 12 (dk_at dksX2_compactOnce_1 0 rfl rfl)
theorem dX2_compactOnce_26 : decode cX2_compactOnce 26 = .ok (.if_icmp .ge 34, 3) := dk_162 0 34 (dk_at dksX2_compactOnce_1 2 rfl rfl)
theorem dX2_compactOnce_29 : decode cX2_compactOnce 29 = .ok (.aload_n 0, 1) := dk_42 (dk_at dksX2_compactOnce_1 5 rfl rfl)
theorem dX2_compactOnce_30 : decode cX2_compactOnce 30 = .ok (.iload 4, 2) := dk_21 4 (dk_at dksX2_compactOnce_1 6 rfl rfl)
theorem dX2_compactOnce_32 : decode cX2_compactOnce 32 = .ok (.iload 5, 2) := dk_21 5 (dk_at dksX2_compactOnce_1 8 rfl rfl)
theorem dX2_compactOnce_34 : decode cX2_compactOnce 34 = .ok (.invokevirtual 212, 3) := dk_182 0 212 (dk_at dksX2_compactOnce_1 10 rfl rfl)
theorem dX2_compactOnce_37 : decode cX2_compactOnce 37 = .ok (.istore 6, 2) := dk_54 6 (dk_at dksX2_compactOnce_1 13 rfl rfl)
theorem dX2_compactOnce_39 : decode cX2_compactOnce 39 = .ok (.iload 6, 2) := dk_21 6 (dk_at dksX2_compactOnce_1 15 rfl rfl)
theorem dX2_compactOnce_41 : decode cX2_compactOnce 41 = .ok (.iload_n 1, 1) := dk_27 (dk_at dksX2_compactOnce_1 17 rfl rfl)
theorem dX2_compactOnce_42 : decode cX2_compactOnce 42 = .ok (.if_icmp .le 12, 3) := dk_164 0 12 (dk_at dksX2_compactOnce_1 18 rfl rfl)
theorem dX2_compactOnce_45 : decode cX2_compactOnce 45 = .ok (.iload 6, 2) := dk_21 6 (dk_at dksX2_compactOnce_1 21 rfl rfl)
theorem dX2_compactOnce_47 : decode cX2_compactOnce 47 = .ok (.istore_n 1, 1) := dk_60 (dk_at dksX2_compactOnce_1 23 rfl rfl)
theorem dX2_compactOnce_48 : decode cX2_compactOnce 48 = .ok (.iload 4, 2) := dk_21 4 (dk_at dksX2_compactOnce_2 0 rfl rfl)
theorem dX2_compactOnce_50 : decode cX2_compactOnce 50 = .ok (.istore_n 2, 1) := dk_61 (dk_at dksX2_compactOnce_2 2 rfl rfl)
theorem dX2_compactOnce_51 : decode cX2_compactOnce 51 = .ok (.iload 5, 2) := dk_21 5 (dk_at dksX2_compactOnce_2 3 rfl rfl)
theorem dX2_compactOnce_53 : decode cX2_compactOnce 53 = .ok (.istore_n 3, 1) := dk_62 (dk_at dksX2_compactOnce_2 5 rfl rfl)
theorem dX2_compactOnce_54 : decode cX2_compactOnce 54 = .ok (.iinc 5 1, 3) := dk_132 5 1 (dk_at dksX2_compactOnce_2 6 rfl rfl)
theorem dX2_compactOnce_57 : decode cX2_compactOnce 57 = .ok (.goto (-35), 3) := dk_167 255 221 (dk_at dksX2_compactOnce_2 9 rfl rfl)
theorem dX2_compactOnce_60 : decode cX2_compactOnce 60 = .ok (.iinc 4 1, 3) := dk_132 4 1 (dk_at dksX2_compactOnce_2 12 rfl rfl)
theorem dX2_compactOnce_63 : decode cX2_compactOnce 63 = .ok (.goto (-54), 3) := dk_167 255 202 (dk_at dksX2_compactOnce_2 15 rfl rfl)
theorem dX2_compactOnce_66 : decode cX2_compactOnce 66 = .ok (.iload_n 1, 1) := dk_27 (dk_at dksX2_compactOnce_2 18 rfl rfl)
theorem dX2_compactOnce_67 : decode cX2_compactOnce 67 = .ok (.ifCond .le 17, 3) := dk_158 0 17 (dk_at dksX2_compactOnce_2 19 rfl rfl)
theorem dX2_compactOnce_70 : decode cX2_compactOnce 70 = .ok (.aload_n 0, 1) := dk_42 (dk_at dksX2_compactOnce_2 22 rfl rfl)
theorem dX2_compactOnce_71 : decode cX2_compactOnce 71 = .ok (.iload_n 2, 1) := dk_28 (dk_at dksX2_compactOnce_2 23 rfl rfl)
theorem dX2_compactOnce_72 : decode cX2_compactOnce 72 = .ok (.iload_n 3, 1) := dk_29 (dk_at dksX2_compactOnce_3 0 rfl rfl)
theorem dX2_compactOnce_73 : decode cX2_compactOnce 73 = .ok (.invokevirtual 215, 3) := dk_182 0 215 (dk_at dksX2_compactOnce_3 1 rfl rfl)
theorem dX2_compactOnce_76 : decode cX2_compactOnce 76 = .ok (.iload_n 2, 1) := dk_28 (dk_at dksX2_compactOnce_3 4 rfl rfl)
theorem dX2_compactOnce_77 : decode cX2_compactOnce 77 = .ok (.if_icmp .ne 7, 3) := dk_160 0 7 (dk_at dksX2_compactOnce_3 5 rfl rfl)
theorem dX2_compactOnce_80 : decode cX2_compactOnce 80 = .ok (.iconst 1, 1) := dk_4 (dk_at dksX2_compactOnce_3 8 rfl rfl)
theorem dX2_compactOnce_81 : decode cX2_compactOnce 81 = .ok (.goto 4, 3) := dk_167 0 4 (dk_at dksX2_compactOnce_3 9 rfl rfl)
theorem dX2_compactOnce_84 : decode cX2_compactOnce 84 = .ok (.iconst 0, 1) := dk_3 (dk_at dksX2_compactOnce_3 12 rfl rfl)
theorem dX2_compactOnce_85 : decode cX2_compactOnce 85 = .ok (.ireturn, 1) := dk_172 (dk_at dksX2_compactOnce_3 13 rfl rfl)
abbrev cX2_gainOrNothing : ByteArray := prog_6_method_17_code
def yX2_gainOrNothing : MethodName := ⟨RX2, "gainOrNothing", "(II)I"⟩
def dkwX2_gainOrNothing_2 : List UInt8 := [153, 0, 12, 42, 27, 28, 182, 0, 209, 167, 0, 4, 3, 172, 58, 4, 3, 172]
abbrev dktX2_gainOrNothing_2 : List UInt8 := dkwX2_gainOrNothing_2 ++ []
def dkwX2_gainOrNothing_1 : List UInt8 := [42, 180, 0, 20, 28, 50, 180, 0, 116, 182, 0, 73, 153, 0, 7, 4, 167, 0, 4, 3, 62, 29]
abbrev dktX2_gainOrNothing_1 : List UInt8 := dkwX2_gainOrNothing_1 ++ dktX2_gainOrNothing_2
def dkwX2_gainOrNothing_0 : List UInt8 := [42, 180, 0, 20, 27, 50, 198, 0, 37, 42, 180, 0, 20, 28, 50, 198, 0, 28, 42, 180, 0, 20, 27, 50]
abbrev dktX2_gainOrNothing_0 : List UInt8 := dkwX2_gainOrNothing_0 ++ dktX2_gainOrNothing_1
theorem dksX2_gainOrNothing_0 : cX2_gainOrNothing.data.toList.drop 0 = dktX2_gainOrNothing_0 := by decide +kernel
theorem dksX2_gainOrNothing_1 : cX2_gainOrNothing.data.toList.drop 24 = dktX2_gainOrNothing_1 := dk_seg dksX2_gainOrNothing_0 24 rfl rfl
theorem dksX2_gainOrNothing_2 : cX2_gainOrNothing.data.toList.drop 46 = dktX2_gainOrNothing_2 := dk_seg dksX2_gainOrNothing_1 22 rfl rfl
theorem dX2_gainOrNothing_0 : decode cX2_gainOrNothing 0 = .ok (.aload_n 0, 1) := dk_42 (dk_at dksX2_gainOrNothing_0 0 rfl rfl)
theorem dX2_gainOrNothing_1 : decode cX2_gainOrNothing 1 = .ok (.getfield 20, 3) := dk_180 0 20 (dk_at dksX2_gainOrNothing_0 1 rfl rfl)
theorem dX2_gainOrNothing_4 : decode cX2_gainOrNothing 4 = .ok (.iload_n 1, 1) := dk_27 (dk_at dksX2_gainOrNothing_0 4 rfl rfl)
theorem dX2_gainOrNothing_5 : decode cX2_gainOrNothing 5 = .ok (.aaload, 1) := dk_50 (dk_at dksX2_gainOrNothing_0 5 rfl rfl)
theorem dX2_gainOrNothing_6 : decode cX2_gainOrNothing 6 = .ok (.ifnull 37, 3) := dk_198 0 37 (dk_at dksX2_gainOrNothing_0 6 rfl rfl)
theorem dX2_gainOrNothing_9 : decode cX2_gainOrNothing 9 = .ok (.aload_n 0, 1) := dk_42 (dk_at dksX2_gainOrNothing_0 9 rfl rfl)
theorem dX2_gainOrNothing_10 : decode cX2_gainOrNothing 10 = .ok (.getfield 20, 3) := dk_180 0 20 (dk_at dksX2_gainOrNothing_0 10 rfl rfl)
theorem dX2_gainOrNothing_13 : decode cX2_gainOrNothing 13 = .ok (.iload_n 2, 1) := dk_28 (dk_at dksX2_gainOrNothing_0 13 rfl rfl)
theorem dX2_gainOrNothing_14 : decode cX2_gainOrNothing 14 = .ok (.aaload, 1) := dk_50 (dk_at dksX2_gainOrNothing_0 14 rfl rfl)
theorem dX2_gainOrNothing_15 : decode cX2_gainOrNothing 15 = .ok (.ifnull 28, 3) := dk_198 0 28 (dk_at dksX2_gainOrNothing_0 15 rfl rfl)
theorem dX2_gainOrNothing_18 : decode cX2_gainOrNothing 18 = .ok (.aload_n 0, 1) := dk_42 (dk_at dksX2_gainOrNothing_0 18 rfl rfl)
theorem dX2_gainOrNothing_19 : decode cX2_gainOrNothing 19 = .ok (.getfield 20, 3) := dk_180 0 20 (dk_at dksX2_gainOrNothing_0 19 rfl rfl)
theorem dX2_gainOrNothing_22 : decode cX2_gainOrNothing 22 = .ok (.iload_n 1, 1) := dk_27 (dk_at dksX2_gainOrNothing_0 22 rfl rfl)
theorem dX2_gainOrNothing_23 : decode cX2_gainOrNothing 23 = .ok (.aaload, 1) := dk_50 (dk_at dksX2_gainOrNothing_0 23 rfl rfl)
theorem dX2_gainOrNothing_24 : decode cX2_gainOrNothing 24 = .ok (.aload_n 0, 1) := dk_42 (dk_at dksX2_gainOrNothing_1 0 rfl rfl)
theorem dX2_gainOrNothing_25 : decode cX2_gainOrNothing 25 = .ok (.getfield 20, 3) := dk_180 0 20 (dk_at dksX2_gainOrNothing_1 1 rfl rfl)
theorem dX2_gainOrNothing_28 : decode cX2_gainOrNothing 28 = .ok (.iload_n 2, 1) := dk_28 (dk_at dksX2_gainOrNothing_1 4 rfl rfl)
theorem dX2_gainOrNothing_29 : decode cX2_gainOrNothing 29 = .ok (.aaload, 1) := dk_50 (dk_at dksX2_gainOrNothing_1 5 rfl rfl)
theorem dX2_gainOrNothing_30 : decode cX2_gainOrNothing 30 = .ok (.getfield 116, 3) := dk_180 0 116 (dk_at dksX2_gainOrNothing_1 6 rfl rfl)
theorem dX2_gainOrNothing_33 : decode cX2_gainOrNothing 33 = .ok (.invokevirtual 73, 3) := dk_182 0 73 (dk_at dksX2_gainOrNothing_1 9 rfl rfl)
theorem dX2_gainOrNothing_36 : decode cX2_gainOrNothing 36 = .ok (.ifCond .eq 7, 3) := dk_153 0 7 (dk_at dksX2_gainOrNothing_1 12 rfl rfl)
theorem dX2_gainOrNothing_39 : decode cX2_gainOrNothing 39 = .ok (.iconst 1, 1) := dk_4 (dk_at dksX2_gainOrNothing_1 15 rfl rfl)
theorem dX2_gainOrNothing_40 : decode cX2_gainOrNothing 40 = .ok (.goto 4, 3) := dk_167 0 4 (dk_at dksX2_gainOrNothing_1 16 rfl rfl)
theorem dX2_gainOrNothing_43 : decode cX2_gainOrNothing 43 = .ok (.iconst 0, 1) := dk_3 (dk_at dksX2_gainOrNothing_1 19 rfl rfl)
theorem dX2_gainOrNothing_44 : decode cX2_gainOrNothing 44 = .ok (.istore_n 3, 1) := dk_62 (dk_at dksX2_gainOrNothing_1 20 rfl rfl)
theorem dX2_gainOrNothing_45 : decode cX2_gainOrNothing 45 = .ok (.iload_n 3, 1) := dk_29 (dk_at dksX2_gainOrNothing_1 21 rfl rfl)
theorem dX2_gainOrNothing_46 : decode cX2_gainOrNothing 46 = .ok (.ifCond .eq 12, 3) := dk_153 0 12 (dk_at dksX2_gainOrNothing_2 0 rfl rfl)
theorem dX2_gainOrNothing_49 : decode cX2_gainOrNothing 49 = .ok (.aload_n 0, 1) := dk_42 (dk_at dksX2_gainOrNothing_2 3 rfl rfl)
theorem dX2_gainOrNothing_50 : decode cX2_gainOrNothing 50 = .ok (.iload_n 1, 1) := dk_27 (dk_at dksX2_gainOrNothing_2 4 rfl rfl)
theorem dX2_gainOrNothing_51 : decode cX2_gainOrNothing 51 = .ok (.iload_n 2, 1) := dk_28 (dk_at dksX2_gainOrNothing_2 5 rfl rfl)
theorem dX2_gainOrNothing_52 : decode cX2_gainOrNothing 52 = .ok (.invokevirtual 209, 3) := dk_182 0 209 (dk_at dksX2_gainOrNothing_2 6 rfl rfl)
theorem dX2_gainOrNothing_55 : decode cX2_gainOrNothing 55 = .ok (.goto 4, 3) := dk_167 0 4 (dk_at dksX2_gainOrNothing_2 9 rfl rfl)
theorem dX2_gainOrNothing_58 : decode cX2_gainOrNothing 58 = .ok (.iconst 0, 1) := dk_3 (dk_at dksX2_gainOrNothing_2 12 rfl rfl)
theorem dX2_gainOrNothing_59 : decode cX2_gainOrNothing 59 = .ok (.ireturn, 1) := dk_172 (dk_at dksX2_gainOrNothing_2 13 rfl rfl)
theorem dX2_gainOrNothing_60 : decode cX2_gainOrNothing 60 = .ok (.astore 4, 2) := dk_58 4 (dk_at dksX2_gainOrNothing_2 14 rfl rfl)
theorem dX2_gainOrNothing_62 : decode cX2_gainOrNothing 62 = .ok (.iconst 0, 1) := dk_3 (dk_at dksX2_gainOrNothing_2 16 rfl rfl)
theorem dX2_gainOrNothing_63 : decode cX2_gainOrNothing 63 = .ok (.ireturn, 1) := dk_172 (dk_at dksX2_gainOrNothing_2 17 rfl rfl)
abbrev cX2_gain : ByteArray := prog_6_method_15_code
def yX2_gain : MethodName := ⟨RX2, "gain", "(II)I"⟩
def dkwX2_gain_3 : List UInt8 := [172]
abbrev dktX2_gain_3 : List UInt8 := dkwX2_gain_3 ++ []
def dkwX2_gain_2 : List UInt8 := [183, 0, 63, 191, 42, 45, 182, 0, 185, 42, 25, 4, 182, 0, 185, 96, 42, 45, 25, 4, 182, 0, 189, 100]
abbrev dktX2_gain_2 : List UInt8 := dkwX2_gain_2 ++ dktX2_gain_3
def dkwX2_gain_1 : List UInt8 := [25, 4, 180, 0, 116, 182, 0, 73, 154, 0, 18, 187, 0, 61, 89, 16, 12, 27, 28, 184, 0, 121]
abbrev dktX2_gain_1 : List UInt8 := dkwX2_gain_1 ++ dktX2_gain_2
def dkwX2_gain_0 : List UInt8 := [42, 180, 0, 20, 27, 28, 184, 0, 121, 50, 78, 42, 180, 0, 20, 27, 28, 184, 0, 127, 50, 58, 4, 45]
abbrev dktX2_gain_0 : List UInt8 := dkwX2_gain_0 ++ dktX2_gain_1
theorem dksX2_gain_0 : cX2_gain.data.toList.drop 0 = dktX2_gain_0 := by decide +kernel
theorem dksX2_gain_1 : cX2_gain.data.toList.drop 24 = dktX2_gain_1 := dk_seg dksX2_gain_0 24 rfl rfl
theorem dksX2_gain_2 : cX2_gain.data.toList.drop 46 = dktX2_gain_2 := dk_seg dksX2_gain_1 22 rfl rfl
theorem dksX2_gain_3 : cX2_gain.data.toList.drop 70 = dktX2_gain_3 := dk_seg dksX2_gain_2 24 rfl rfl
theorem dX2_gain_0 : decode cX2_gain 0 = .ok (.aload_n 0, 1) := dk_42 (dk_at dksX2_gain_0 0 rfl rfl)
theorem dX2_gain_1 : decode cX2_gain 1 = .ok (.getfield 20, 3) := dk_180 0 20 (dk_at dksX2_gain_0 1 rfl rfl)
theorem dX2_gain_4 : decode cX2_gain 4 = .ok (.iload_n 1, 1) := dk_27 (dk_at dksX2_gain_0 4 rfl rfl)
theorem dX2_gain_5 : decode cX2_gain 5 = .ok (.iload_n 2, 1) := dk_28 (dk_at dksX2_gain_0 5 rfl rfl)
theorem dX2_gain_6 : decode cX2_gain 6 = .ok (.invokestatic 121, 3) := dk_184 0 121 (dk_at dksX2_gain_0 6 rfl rfl)
theorem dX2_gain_9 : decode cX2_gain 9 = .ok (.aaload, 1) := dk_50 (dk_at dksX2_gain_0 9 rfl rfl)
theorem dX2_gain_10 : decode cX2_gain 10 = .ok (.astore_n 3, 1) := dk_78 (dk_at dksX2_gain_0 10 rfl rfl)
theorem dX2_gain_11 : decode cX2_gain 11 = .ok (.aload_n 0, 1) := dk_42 (dk_at dksX2_gain_0 11 rfl rfl)
theorem dX2_gain_12 : decode cX2_gain 12 = .ok (.getfield 20, 3) := dk_180 0 20 (dk_at dksX2_gain_0 12 rfl rfl)
theorem dX2_gain_15 : decode cX2_gain 15 = .ok (.iload_n 1, 1) := dk_27 (dk_at dksX2_gain_0 15 rfl rfl)
theorem dX2_gain_16 : decode cX2_gain 16 = .ok (.iload_n 2, 1) := dk_28 (dk_at dksX2_gain_0 16 rfl rfl)
theorem dX2_gain_17 : decode cX2_gain 17 = .ok (.invokestatic 127, 3) := dk_184 0 127 (dk_at dksX2_gain_0 17 rfl rfl)
theorem dX2_gain_20 : decode cX2_gain 20 = .ok (.aaload, 1) := dk_50 (dk_at dksX2_gain_0 20 rfl rfl)
theorem dX2_gain_21 : decode cX2_gain 21 = .ok (.astore 4, 2) := dk_58 4 (dk_at dksX2_gain_0 21 rfl rfl)
theorem dX2_gain_23 : decode cX2_gain 23 = .ok (.aload_n 3, 1) := dk_45 (dk_at dksX2_gain_0 23 rfl rfl)
theorem dX2_gain_24 : decode cX2_gain 24 = .ok (.aload 4, 2) := dk_25 4 (dk_at dksX2_gain_1 0 rfl rfl)
theorem dX2_gain_26 : decode cX2_gain 26 = .ok (.getfield 116, 3) := dk_180 0 116 (dk_at dksX2_gain_1 2 rfl rfl)
theorem dX2_gain_29 : decode cX2_gain 29 = .ok (.invokevirtual 73, 3) := dk_182 0 73 (dk_at dksX2_gain_1 5 rfl rfl)
theorem dX2_gain_32 : decode cX2_gain 32 = .ok (.ifCond .ne 18, 3) := dk_154 0 18 (dk_at dksX2_gain_1 8 rfl rfl)
theorem dX2_gain_35 : decode cX2_gain 35 = .ok (.new 61, 3) := dk_187 0 61 (dk_at dksX2_gain_1 11 rfl rfl)
theorem dX2_gain_38 : decode cX2_gain 38 = .ok (.dup, 1) := dk_89 (dk_at dksX2_gain_1 14 rfl rfl)
theorem dX2_gain_39 : decode cX2_gain 39 = .ok (.bipush 12, 2) := dk_16 12 (dk_at dksX2_gain_1 15 rfl rfl)
theorem dX2_gain_41 : decode cX2_gain 41 = .ok (.iload_n 1, 1) := dk_27 (dk_at dksX2_gain_1 17 rfl rfl)
theorem dX2_gain_42 : decode cX2_gain 42 = .ok (.iload_n 2, 1) := dk_28 (dk_at dksX2_gain_1 18 rfl rfl)
theorem dX2_gain_43 : decode cX2_gain 43 = .ok (.invokestatic 121, 3) := dk_184 0 121 (dk_at dksX2_gain_1 19 rfl rfl)
theorem dX2_gain_46 : decode cX2_gain 46 = .ok (.invokespecial 63, 3) := dk_183 0 63 (dk_at dksX2_gain_2 0 rfl rfl)
theorem dX2_gain_49 : decode cX2_gain 49 = .ok (.athrow, 1) := dk_191 (dk_at dksX2_gain_2 3 rfl rfl)
theorem dX2_gain_50 : decode cX2_gain 50 = .ok (.aload_n 0, 1) := dk_42 (dk_at dksX2_gain_2 4 rfl rfl)
theorem dX2_gain_51 : decode cX2_gain 51 = .ok (.aload_n 3, 1) := dk_45 (dk_at dksX2_gain_2 5 rfl rfl)
theorem dX2_gain_52 : decode cX2_gain 52 = .ok (.invokevirtual 185, 3) := dk_182 0 185 (dk_at dksX2_gain_2 6 rfl rfl)
theorem dX2_gain_55 : decode cX2_gain 55 = .ok (.aload_n 0, 1) := dk_42 (dk_at dksX2_gain_2 9 rfl rfl)
theorem dX2_gain_56 : decode cX2_gain 56 = .ok (.aload 4, 2) := dk_25 4 (dk_at dksX2_gain_2 10 rfl rfl)
theorem dX2_gain_58 : decode cX2_gain 58 = .ok (.invokevirtual 185, 3) := dk_182 0 185 (dk_at dksX2_gain_2 12 rfl rfl)
theorem dX2_gain_61 : decode cX2_gain 61 = .ok (.iadd, 1) := dk_96 (dk_at dksX2_gain_2 15 rfl rfl)
theorem dX2_gain_62 : decode cX2_gain 62 = .ok (.aload_n 0, 1) := dk_42 (dk_at dksX2_gain_2 16 rfl rfl)
theorem dX2_gain_63 : decode cX2_gain 63 = .ok (.aload_n 3, 1) := dk_45 (dk_at dksX2_gain_2 17 rfl rfl)
theorem dX2_gain_64 : decode cX2_gain 64 = .ok (.aload 4, 2) := dk_25 4 (dk_at dksX2_gain_2 18 rfl rfl)
theorem dX2_gain_66 : decode cX2_gain 66 = .ok (.invokevirtual 189, 3) := dk_182 0 189 (dk_at dksX2_gain_2 20 rfl rfl)
theorem dX2_gain_69 : decode cX2_gain 69 = .ok (.isub, 1) := dk_100 (dk_at dksX2_gain_2 23 rfl rfl)
theorem dX2_gain_70 : decode cX2_gain 70 = .ok (.ireturn, 1) := dk_172 (dk_at dksX2_gain_3 0 rfl rfl)
abbrev cX2_costOf : ByteArray := prog_6_method_13_code
def yX2_costOf : MethodName := ⟨RX2, "costOf", "(LLogCompactor$Template;)I"⟩
def dkwX2_costOf_2 : List UInt8 := [182, 0, 179, 28, 42, 180, 0, 31, 182, 0, 182, 96, 61, 132, 3, 1, 167, 255, 202, 28, 172]
abbrev dktX2_costOf_2 : List UInt8 := dkwX2_costOf_2 ++ []
def dkwX2_costOf_1 : List UInt8 := [182, 0, 154, 192, 0, 174, 182, 0, 176, 153, 0, 26, 42, 180, 0, 31, 42, 180, 0, 12, 43, 29]
abbrev dktX2_costOf_1 : List UInt8 := dkwX2_costOf_1 ++ dktX2_costOf_2
def dkwX2_costOf_0 : List UInt8 := [43, 182, 0, 168, 61, 3, 62, 29, 43, 180, 0, 171, 182, 0, 84, 162, 0, 49, 43, 180, 0, 171, 29]
abbrev dktX2_costOf_0 : List UInt8 := dkwX2_costOf_0 ++ dktX2_costOf_1
theorem dksX2_costOf_0 : cX2_costOf.data.toList.drop 0 = dktX2_costOf_0 := by decide +kernel
theorem dksX2_costOf_1 : cX2_costOf.data.toList.drop 23 = dktX2_costOf_1 := dk_seg dksX2_costOf_0 23 rfl rfl
theorem dksX2_costOf_2 : cX2_costOf.data.toList.drop 45 = dktX2_costOf_2 := dk_seg dksX2_costOf_1 22 rfl rfl
theorem dX2_costOf_0 : decode cX2_costOf 0 = .ok (.aload_n 1, 1) := dk_43 (dk_at dksX2_costOf_0 0 rfl rfl)
theorem dX2_costOf_1 : decode cX2_costOf 1 = .ok (.invokevirtual 168, 3) := dk_182 0 168 (dk_at dksX2_costOf_0 1 rfl rfl)
theorem dX2_costOf_4 : decode cX2_costOf 4 = .ok (.istore_n 2, 1) := dk_61 (dk_at dksX2_costOf_0 4 rfl rfl)
theorem dX2_costOf_5 : decode cX2_costOf 5 = .ok (.iconst 0, 1) := dk_3 (dk_at dksX2_costOf_0 5 rfl rfl)
theorem dX2_costOf_6 : decode cX2_costOf 6 = .ok (.istore_n 3, 1) := dk_62 (dk_at dksX2_costOf_0 6 rfl rfl)
theorem dX2_costOf_7 : decode cX2_costOf 7 = .ok (.iload_n 3, 1) := dk_29 (dk_at dksX2_costOf_0 7 rfl rfl)
theorem dX2_costOf_8 : decode cX2_costOf 8 = .ok (.aload_n 1, 1) := dk_43 (dk_at dksX2_costOf_0 8 rfl rfl)
theorem dX2_costOf_9 : decode cX2_costOf 9 = .ok (.getfield 171, 3) := dk_180 0 171 (dk_at dksX2_costOf_0 9 rfl rfl)
theorem dX2_costOf_12 : decode cX2_costOf 12 = .ok (.invokevirtual 84, 3) := dk_182 0 84 (dk_at dksX2_costOf_0 12 rfl rfl)
theorem dX2_costOf_15 : decode cX2_costOf 15 = .ok (.if_icmp .ge 49, 3) := dk_162 0 49 (dk_at dksX2_costOf_0 15 rfl rfl)
theorem dX2_costOf_18 : decode cX2_costOf 18 = .ok (.aload_n 1, 1) := dk_43 (dk_at dksX2_costOf_0 18 rfl rfl)
theorem dX2_costOf_19 : decode cX2_costOf 19 = .ok (.getfield 171, 3) := dk_180 0 171 (dk_at dksX2_costOf_0 19 rfl rfl)
theorem dX2_costOf_22 : decode cX2_costOf 22 = .ok (.iload_n 3, 1) := dk_29 (dk_at dksX2_costOf_0 22 rfl rfl)
theorem dX2_costOf_23 : decode cX2_costOf 23 = .ok (.invokevirtual 154, 3) := dk_182 0 154 (dk_at dksX2_costOf_1 0 rfl rfl)
theorem dX2_costOf_26 : decode cX2_costOf 26 = .ok (.checkcast 174, 3) := dk_192 0 174 (dk_at dksX2_costOf_1 3 rfl rfl)
theorem dX2_costOf_29 : decode cX2_costOf 29 = .ok (.invokevirtual 176, 3) := dk_182 0 176 (dk_at dksX2_costOf_1 6 rfl rfl)
theorem dX2_costOf_32 : decode cX2_costOf 32 = .ok (.ifCond .eq 26, 3) := dk_153 0 26 (dk_at dksX2_costOf_1 9 rfl rfl)
theorem dX2_costOf_35 : decode cX2_costOf 35 = .ok (.aload_n 0, 1) := dk_42 (dk_at dksX2_costOf_1 12 rfl rfl)
theorem dX2_costOf_36 : decode cX2_costOf 36 = .ok (.getfield 31, 3) := dk_180 0 31 (dk_at dksX2_costOf_1 13 rfl rfl)
theorem dX2_costOf_39 : decode cX2_costOf 39 = .ok (.aload_n 0, 1) := dk_42 (dk_at dksX2_costOf_1 16 rfl rfl)
theorem dX2_costOf_40 : decode cX2_costOf 40 = .ok (.getfield 12, 3) := dk_180 0 12 (dk_at dksX2_costOf_1 17 rfl rfl)
theorem dX2_costOf_43 : decode cX2_costOf 43 = .ok (.aload_n 1, 1) := dk_43 (dk_at dksX2_costOf_1 20 rfl rfl)
theorem dX2_costOf_44 : decode cX2_costOf 44 = .ok (.iload_n 3, 1) := dk_29 (dk_at dksX2_costOf_1 21 rfl rfl)
theorem dX2_costOf_45 : decode cX2_costOf 45 = .ok (.invokevirtual 179, 3) := dk_182 0 179 (dk_at dksX2_costOf_2 0 rfl rfl)
theorem dX2_costOf_48 : decode cX2_costOf 48 = .ok (.iload_n 2, 1) := dk_28 (dk_at dksX2_costOf_2 3 rfl rfl)
theorem dX2_costOf_49 : decode cX2_costOf 49 = .ok (.aload_n 0, 1) := dk_42 (dk_at dksX2_costOf_2 4 rfl rfl)
theorem dX2_costOf_50 : decode cX2_costOf 50 = .ok (.getfield 31, 3) := dk_180 0 31 (dk_at dksX2_costOf_2 5 rfl rfl)
theorem dX2_costOf_53 : decode cX2_costOf 53 = .ok (.invokevirtual 182, 3) := dk_182 0 182 (dk_at dksX2_costOf_2 8 rfl rfl)
theorem dX2_costOf_56 : decode cX2_costOf 56 = .ok (.iadd, 1) := dk_96 (dk_at dksX2_costOf_2 11 rfl rfl)
theorem dX2_costOf_57 : decode cX2_costOf 57 = .ok (.istore_n 2, 1) := dk_61 (dk_at dksX2_costOf_2 12 rfl rfl)
theorem dX2_costOf_58 : decode cX2_costOf 58 = .ok (.iinc 3 1, 3) := dk_132 3 1 (dk_at dksX2_costOf_2 13 rfl rfl)
theorem dX2_costOf_61 : decode cX2_costOf 61 = .ok (.goto (-54), 3) := dk_167 255 202 (dk_at dksX2_costOf_2 16 rfl rfl)
theorem dX2_costOf_64 : decode cX2_costOf 64 = .ok (.iload_n 2, 1) := dk_28 (dk_at dksX2_costOf_2 19 rfl rfl)
theorem dX2_costOf_65 : decode cX2_costOf 65 = .ok (.ireturn, 1) := dk_172 (dk_at dksX2_costOf_2 20 rfl rfl)
abbrev cX2_costOfBoth : ByteArray := prog_6_method_16_code
def yX2_costOfBoth : MethodName := ⟨RX2, "costOfBoth", "(LLogCompactor$Template;LLogCompactor$Template;)I"⟩
def dkwX2_costOfBoth_4 : List UInt8 := [5, 42, 180, 0, 31, 182, 0, 182, 96, 96, 62, 132, 4, 1, 167, 255, 154, 29, 172]
abbrev dktX2_costOfBoth_4 : List UInt8 := dkwX2_costOfBoth_4 ++ []
def dkwX2_costOfBoth_3 : List UInt8 := [182, 0, 204, 96, 62, 167, 0, 30, 42, 180, 0, 31, 42, 180, 0, 12, 43, 44, 21, 4, 182, 0, 205, 29]
abbrev dktX2_costOfBoth_3 : List UInt8 := dkwX2_costOfBoth_3 ++ dktX2_costOfBoth_4
def dkwX2_costOfBoth_2 : List UInt8 := [25, 6, 182, 0, 176, 154, 0, 27, 25, 5, 25, 6, 180, 0, 196, 182, 0, 200, 153, 0, 14, 29, 25, 5]
abbrev dktX2_costOfBoth_2 : List UInt8 := dkwX2_costOfBoth_2 ++ dktX2_costOfBoth_3
def dkwX2_costOfBoth_1 : List UInt8 := [21, 4, 182, 0, 154, 192, 0, 174, 58, 5, 44, 180, 0, 171, 21, 4, 182, 0, 154, 192, 0, 174, 58, 6]
abbrev dktX2_costOfBoth_1 : List UInt8 := dkwX2_costOfBoth_1 ++ dktX2_costOfBoth_2
def dkwX2_costOfBoth_0 : List UInt8 := [43, 182, 0, 193, 62, 3, 54, 4, 21, 4, 43, 180, 0, 171, 182, 0, 84, 162, 0, 96, 43, 180, 0, 171]
abbrev dktX2_costOfBoth_0 : List UInt8 := dkwX2_costOfBoth_0 ++ dktX2_costOfBoth_1
theorem dksX2_costOfBoth_0 : cX2_costOfBoth.data.toList.drop 0 = dktX2_costOfBoth_0 := by decide +kernel
theorem dksX2_costOfBoth_1 : cX2_costOfBoth.data.toList.drop 24 = dktX2_costOfBoth_1 := dk_seg dksX2_costOfBoth_0 24 rfl rfl
theorem dksX2_costOfBoth_2 : cX2_costOfBoth.data.toList.drop 48 = dktX2_costOfBoth_2 := dk_seg dksX2_costOfBoth_1 24 rfl rfl
theorem dksX2_costOfBoth_3 : cX2_costOfBoth.data.toList.drop 72 = dktX2_costOfBoth_3 := dk_seg dksX2_costOfBoth_2 24 rfl rfl
theorem dksX2_costOfBoth_4 : cX2_costOfBoth.data.toList.drop 96 = dktX2_costOfBoth_4 := dk_seg dksX2_costOfBoth_3 24 rfl rfl
theorem dX2_costOfBoth_0 : decode cX2_costOfBoth 0 = .ok (.aload_n 1, 1) := dk_43 (dk_at dksX2_costOfBoth_0 0 rfl rfl)
theorem dX2_costOfBoth_1 : decode cX2_costOfBoth 1 = .ok (.invokevirtual 193, 3) := dk_182 0 193 (dk_at dksX2_costOfBoth_0 1 rfl rfl)
theorem dX2_costOfBoth_4 : decode cX2_costOfBoth 4 = .ok (.istore_n 3, 1) := dk_62 (dk_at dksX2_costOfBoth_0 4 rfl rfl)
theorem dX2_costOfBoth_5 : decode cX2_costOfBoth 5 = .ok (.iconst 0, 1) := dk_3 (dk_at dksX2_costOfBoth_0 5 rfl rfl)
theorem dX2_costOfBoth_6 : decode cX2_costOfBoth 6 = .ok (.istore 4, 2) := dk_54 4 (dk_at dksX2_costOfBoth_0 6 rfl rfl)
theorem dX2_costOfBoth_8 : decode cX2_costOfBoth 8 = .ok (.iload 4, 2) := dk_21 4 (dk_at dksX2_costOfBoth_0 8 rfl rfl)
theorem dX2_costOfBoth_10 : decode cX2_costOfBoth 10 = .ok (.aload_n 1, 1) := dk_43 (dk_at dksX2_costOfBoth_0 10 rfl rfl)
theorem dX2_costOfBoth_11 : decode cX2_costOfBoth 11 = .ok (.getfield 171, 3) := dk_180 0 171 (dk_at dksX2_costOfBoth_0 11 rfl rfl)
theorem dX2_costOfBoth_14 : decode cX2_costOfBoth 14 = .ok (.invokevirtual 84, 3) := dk_182 0 84 (dk_at dksX2_costOfBoth_0 14 rfl rfl)
theorem dX2_costOfBoth_17 : decode cX2_costOfBoth 17 = .ok (.if_icmp .ge 96, 3) := dk_162 0 96 (dk_at dksX2_costOfBoth_0 17 rfl rfl)
theorem dX2_costOfBoth_20 : decode cX2_costOfBoth 20 = .ok (.aload_n 1, 1) := dk_43 (dk_at dksX2_costOfBoth_0 20 rfl rfl)
theorem dX2_costOfBoth_21 : decode cX2_costOfBoth 21 = .ok (.getfield 171, 3) := dk_180 0 171 (dk_at dksX2_costOfBoth_0 21 rfl rfl)
theorem dX2_costOfBoth_24 : decode cX2_costOfBoth 24 = .ok (.iload 4, 2) := dk_21 4 (dk_at dksX2_costOfBoth_1 0 rfl rfl)
theorem dX2_costOfBoth_26 : decode cX2_costOfBoth 26 = .ok (.invokevirtual 154, 3) := dk_182 0 154 (dk_at dksX2_costOfBoth_1 2 rfl rfl)
theorem dX2_costOfBoth_29 : decode cX2_costOfBoth 29 = .ok (.checkcast 174, 3) := dk_192 0 174 (dk_at dksX2_costOfBoth_1 5 rfl rfl)
theorem dX2_costOfBoth_32 : decode cX2_costOfBoth 32 = .ok (.astore 5, 2) := dk_58 5 (dk_at dksX2_costOfBoth_1 8 rfl rfl)
theorem dX2_costOfBoth_34 : decode cX2_costOfBoth 34 = .ok (.aload_n 2, 1) := dk_44 (dk_at dksX2_costOfBoth_1 10 rfl rfl)
theorem dX2_costOfBoth_35 : decode cX2_costOfBoth 35 = .ok (.getfield 171, 3) := dk_180 0 171 (dk_at dksX2_costOfBoth_1 11 rfl rfl)
theorem dX2_costOfBoth_38 : decode cX2_costOfBoth 38 = .ok (.iload 4, 2) := dk_21 4 (dk_at dksX2_costOfBoth_1 14 rfl rfl)
theorem dX2_costOfBoth_40 : decode cX2_costOfBoth 40 = .ok (.invokevirtual 154, 3) := dk_182 0 154 (dk_at dksX2_costOfBoth_1 16 rfl rfl)
theorem dX2_costOfBoth_43 : decode cX2_costOfBoth 43 = .ok (.checkcast 174, 3) := dk_192 0 174 (dk_at dksX2_costOfBoth_1 19 rfl rfl)
theorem dX2_costOfBoth_46 : decode cX2_costOfBoth 46 = .ok (.astore 6, 2) := dk_58 6 (dk_at dksX2_costOfBoth_1 22 rfl rfl)
theorem dX2_costOfBoth_48 : decode cX2_costOfBoth 48 = .ok (.aload 6, 2) := dk_25 6 (dk_at dksX2_costOfBoth_2 0 rfl rfl)
theorem dX2_costOfBoth_50 : decode cX2_costOfBoth 50 = .ok (.invokevirtual 176, 3) := dk_182 0 176 (dk_at dksX2_costOfBoth_2 2 rfl rfl)
theorem dX2_costOfBoth_53 : decode cX2_costOfBoth 53 = .ok (.ifCond .ne 27, 3) := dk_154 0 27 (dk_at dksX2_costOfBoth_2 5 rfl rfl)
theorem dX2_costOfBoth_56 : decode cX2_costOfBoth 56 = .ok (.aload 5, 2) := dk_25 5 (dk_at dksX2_costOfBoth_2 8 rfl rfl)
theorem dX2_costOfBoth_58 : decode cX2_costOfBoth 58 = .ok (.aload 6, 2) := dk_25 6 (dk_at dksX2_costOfBoth_2 10 rfl rfl)
theorem dX2_costOfBoth_60 : decode cX2_costOfBoth 60 = .ok (.getfield 196, 3) := dk_180 0 196 (dk_at dksX2_costOfBoth_2 12 rfl rfl)
theorem dX2_costOfBoth_63 : decode cX2_costOfBoth 63 = .ok (.invokevirtual 200, 3) := dk_182 0 200 (dk_at dksX2_costOfBoth_2 15 rfl rfl)
theorem dX2_costOfBoth_66 : decode cX2_costOfBoth 66 = .ok (.ifCond .eq 14, 3) := dk_153 0 14 (dk_at dksX2_costOfBoth_2 18 rfl rfl)
theorem dX2_costOfBoth_69 : decode cX2_costOfBoth 69 = .ok (.iload_n 3, 1) := dk_29 (dk_at dksX2_costOfBoth_2 21 rfl rfl)
theorem dX2_costOfBoth_70 : decode cX2_costOfBoth 70 = .ok (.aload 5, 2) := dk_25 5 (dk_at dksX2_costOfBoth_2 22 rfl rfl)
theorem dX2_costOfBoth_72 : decode cX2_costOfBoth 72 = .ok (.invokevirtual 204, 3) := dk_182 0 204 (dk_at dksX2_costOfBoth_3 0 rfl rfl)
theorem dX2_costOfBoth_75 : decode cX2_costOfBoth 75 = .ok (.iadd, 1) := dk_96 (dk_at dksX2_costOfBoth_3 3 rfl rfl)
theorem dX2_costOfBoth_76 : decode cX2_costOfBoth 76 = .ok (.istore_n 3, 1) := dk_62 (dk_at dksX2_costOfBoth_3 4 rfl rfl)
theorem dX2_costOfBoth_77 : decode cX2_costOfBoth 77 = .ok (.goto 30, 3) := dk_167 0 30 (dk_at dksX2_costOfBoth_3 5 rfl rfl)
theorem dX2_costOfBoth_80 : decode cX2_costOfBoth 80 = .ok (.aload_n 0, 1) := dk_42 (dk_at dksX2_costOfBoth_3 8 rfl rfl)
theorem dX2_costOfBoth_81 : decode cX2_costOfBoth 81 = .ok (.getfield 31, 3) := dk_180 0 31 (dk_at dksX2_costOfBoth_3 9 rfl rfl)
theorem dX2_costOfBoth_84 : decode cX2_costOfBoth 84 = .ok (.aload_n 0, 1) := dk_42 (dk_at dksX2_costOfBoth_3 12 rfl rfl)
theorem dX2_costOfBoth_85 : decode cX2_costOfBoth 85 = .ok (.getfield 12, 3) := dk_180 0 12 (dk_at dksX2_costOfBoth_3 13 rfl rfl)
theorem dX2_costOfBoth_88 : decode cX2_costOfBoth 88 = .ok (.aload_n 1, 1) := dk_43 (dk_at dksX2_costOfBoth_3 16 rfl rfl)
theorem dX2_costOfBoth_89 : decode cX2_costOfBoth 89 = .ok (.aload_n 2, 1) := dk_44 (dk_at dksX2_costOfBoth_3 17 rfl rfl)
theorem dX2_costOfBoth_90 : decode cX2_costOfBoth 90 = .ok (.iload 4, 2) := dk_21 4 (dk_at dksX2_costOfBoth_3 18 rfl rfl)
theorem dX2_costOfBoth_92 : decode cX2_costOfBoth 92 = .ok (.invokevirtual 205, 3) := dk_182 0 205 (dk_at dksX2_costOfBoth_3 20 rfl rfl)
theorem dX2_costOfBoth_95 : decode cX2_costOfBoth 95 = .ok (.iload_n 3, 1) := dk_29 (dk_at dksX2_costOfBoth_3 23 rfl rfl)
theorem dX2_costOfBoth_96 : decode cX2_costOfBoth 96 = .ok (.iconst 2, 1) := dk_5 (dk_at dksX2_costOfBoth_4 0 rfl rfl)
theorem dX2_costOfBoth_97 : decode cX2_costOfBoth 97 = .ok (.aload_n 0, 1) := dk_42 (dk_at dksX2_costOfBoth_4 1 rfl rfl)
theorem dX2_costOfBoth_98 : decode cX2_costOfBoth 98 = .ok (.getfield 31, 3) := dk_180 0 31 (dk_at dksX2_costOfBoth_4 2 rfl rfl)
theorem dX2_costOfBoth_101 : decode cX2_costOfBoth 101 = .ok (.invokevirtual 182, 3) := dk_182 0 182 (dk_at dksX2_costOfBoth_4 5 rfl rfl)
theorem dX2_costOfBoth_104 : decode cX2_costOfBoth 104 = .ok (.iadd, 1) := dk_96 (dk_at dksX2_costOfBoth_4 8 rfl rfl)
theorem dX2_costOfBoth_105 : decode cX2_costOfBoth 105 = .ok (.iadd, 1) := dk_96 (dk_at dksX2_costOfBoth_4 9 rfl rfl)
theorem dX2_costOfBoth_106 : decode cX2_costOfBoth 106 = .ok (.istore_n 3, 1) := dk_62 (dk_at dksX2_costOfBoth_4 10 rfl rfl)
theorem dX2_costOfBoth_107 : decode cX2_costOfBoth 107 = .ok (.iinc 4 1, 3) := dk_132 4 1 (dk_at dksX2_costOfBoth_4 11 rfl rfl)
theorem dX2_costOfBoth_110 : decode cX2_costOfBoth 110 = .ok (.goto (-102), 3) := dk_167 255 154 (dk_at dksX2_costOfBoth_4 14 rfl rfl)
theorem dX2_costOfBoth_113 : decode cX2_costOfBoth 113 = .ok (.iload_n 3, 1) := dk_29 (dk_at dksX2_costOfBoth_4 17 rfl rfl)
theorem dX2_costOfBoth_114 : decode cX2_costOfBoth 114 = .ok (.ireturn, 1) := dk_172 (dk_at dksX2_costOfBoth_4 18 rfl rfl)
abbrev cX2_merge : ByteArray := prog_6_method_9_code
def yX2_merge : MethodName := ⟨RX2, "merge", "(II)I"⟩
def dkwX2_merge_2 : List UInt8 := [187, 0, 61, 89, 5, 21, 4, 25, 5, 183, 0, 103, 191]
abbrev dktX2_merge_2 : List UInt8 := dkwX2_merge_2 ++ []
def dkwX2_merge_1 : List UInt8 := [42, 180, 0, 20, 21, 4, 50, 29, 184, 0, 130, 83, 42, 180, 0, 20, 21, 4, 1, 83, 29, 172, 58, 5]
abbrev dktX2_merge_1 : List UInt8 := dkwX2_merge_1 ++ dktX2_merge_2
def dkwX2_merge_0 : List UInt8 := [27, 28, 184, 0, 121, 62, 27, 28, 184, 0, 127, 54, 4, 42, 180, 0, 20, 29, 42, 180, 0, 20, 29, 50]
abbrev dktX2_merge_0 : List UInt8 := dkwX2_merge_0 ++ dktX2_merge_1
theorem dksX2_merge_0 : cX2_merge.data.toList.drop 0 = dktX2_merge_0 := by decide +kernel
theorem dksX2_merge_1 : cX2_merge.data.toList.drop 24 = dktX2_merge_1 := dk_seg dksX2_merge_0 24 rfl rfl
theorem dksX2_merge_2 : cX2_merge.data.toList.drop 48 = dktX2_merge_2 := dk_seg dksX2_merge_1 24 rfl rfl
theorem dX2_merge_0 : decode cX2_merge 0 = .ok (.iload_n 1, 1) := dk_27 (dk_at dksX2_merge_0 0 rfl rfl)
theorem dX2_merge_1 : decode cX2_merge 1 = .ok (.iload_n 2, 1) := dk_28 (dk_at dksX2_merge_0 1 rfl rfl)
theorem dX2_merge_2 : decode cX2_merge 2 = .ok (.invokestatic 121, 3) := dk_184 0 121 (dk_at dksX2_merge_0 2 rfl rfl)
theorem dX2_merge_5 : decode cX2_merge 5 = .ok (.istore_n 3, 1) := dk_62 (dk_at dksX2_merge_0 5 rfl rfl)
theorem dX2_merge_6 : decode cX2_merge 6 = .ok (.iload_n 1, 1) := dk_27 (dk_at dksX2_merge_0 6 rfl rfl)
theorem dX2_merge_7 : decode cX2_merge 7 = .ok (.iload_n 2, 1) := dk_28 (dk_at dksX2_merge_0 7 rfl rfl)
theorem dX2_merge_8 : decode cX2_merge 8 = .ok (.invokestatic 127, 3) := dk_184 0 127 (dk_at dksX2_merge_0 8 rfl rfl)
theorem dX2_merge_11 : decode cX2_merge 11 = .ok (.istore 4, 2) := dk_54 4 (dk_at dksX2_merge_0 11 rfl rfl)
theorem dX2_merge_13 : decode cX2_merge 13 = .ok (.aload_n 0, 1) := dk_42 (dk_at dksX2_merge_0 13 rfl rfl)
theorem dX2_merge_14 : decode cX2_merge 14 = .ok (.getfield 20, 3) := dk_180 0 20 (dk_at dksX2_merge_0 14 rfl rfl)
theorem dX2_merge_17 : decode cX2_merge 17 = .ok (.iload_n 3, 1) := dk_29 (dk_at dksX2_merge_0 17 rfl rfl)
theorem dX2_merge_18 : decode cX2_merge 18 = .ok (.aload_n 0, 1) := dk_42 (dk_at dksX2_merge_0 18 rfl rfl)
theorem dX2_merge_19 : decode cX2_merge 19 = .ok (.getfield 20, 3) := dk_180 0 20 (dk_at dksX2_merge_0 19 rfl rfl)
theorem dX2_merge_22 : decode cX2_merge 22 = .ok (.iload_n 3, 1) := dk_29 (dk_at dksX2_merge_0 22 rfl rfl)
theorem dX2_merge_23 : decode cX2_merge 23 = .ok (.aaload, 1) := dk_50 (dk_at dksX2_merge_0 23 rfl rfl)
theorem dX2_merge_24 : decode cX2_merge 24 = .ok (.aload_n 0, 1) := dk_42 (dk_at dksX2_merge_1 0 rfl rfl)
theorem dX2_merge_25 : decode cX2_merge 25 = .ok (.getfield 20, 3) := dk_180 0 20 (dk_at dksX2_merge_1 1 rfl rfl)
theorem dX2_merge_28 : decode cX2_merge 28 = .ok (.iload 4, 2) := dk_21 4 (dk_at dksX2_merge_1 4 rfl rfl)
theorem dX2_merge_30 : decode cX2_merge 30 = .ok (.aaload, 1) := dk_50 (dk_at dksX2_merge_1 6 rfl rfl)
theorem dX2_merge_31 : decode cX2_merge 31 = .ok (.iload_n 3, 1) := dk_29 (dk_at dksX2_merge_1 7 rfl rfl)
theorem dX2_merge_32 : decode cX2_merge 32 = .ok (.invokestatic 130, 3) := dk_184 0 130 (dk_at dksX2_merge_1 8 rfl rfl)
theorem dX2_merge_35 : decode cX2_merge 35 = .ok (.aastore, 1) := dk_83 (dk_at dksX2_merge_1 11 rfl rfl)
theorem dX2_merge_36 : decode cX2_merge 36 = .ok (.aload_n 0, 1) := dk_42 (dk_at dksX2_merge_1 12 rfl rfl)
theorem dX2_merge_37 : decode cX2_merge 37 = .ok (.getfield 20, 3) := dk_180 0 20 (dk_at dksX2_merge_1 13 rfl rfl)
theorem dX2_merge_40 : decode cX2_merge 40 = .ok (.iload 4, 2) := dk_21 4 (dk_at dksX2_merge_1 16 rfl rfl)
theorem dX2_merge_42 : decode cX2_merge 42 = .ok (.aconst_null, 1) := dk_1 (dk_at dksX2_merge_1 18 rfl rfl)
theorem dX2_merge_43 : decode cX2_merge 43 = .ok (.aastore, 1) := dk_83 (dk_at dksX2_merge_1 19 rfl rfl)
theorem dX2_merge_44 : decode cX2_merge 44 = .ok (.iload_n 3, 1) := dk_29 (dk_at dksX2_merge_1 20 rfl rfl)
theorem dX2_merge_45 : decode cX2_merge 45 = .ok (.ireturn, 1) := dk_172 (dk_at dksX2_merge_1 21 rfl rfl)
theorem dX2_merge_46 : decode cX2_merge 46 = .ok (.astore 5, 2) := dk_58 5 (dk_at dksX2_merge_1 22 rfl rfl)
theorem dX2_merge_48 : decode cX2_merge 48 = .ok (.new 61, 3) := dk_187 0 61 (dk_at dksX2_merge_2 0 rfl rfl)
theorem dX2_merge_51 : decode cX2_merge 51 = .ok (.dup, 1) := dk_89 (dk_at dksX2_merge_2 3 rfl rfl)
theorem dX2_merge_52 : decode cX2_merge 52 = .ok (.iconst 2, 1) := dk_5 (dk_at dksX2_merge_2 4 rfl rfl)
theorem dX2_merge_53 : decode cX2_merge 53 = .ok (.iload 4, 2) := dk_21 4 (dk_at dksX2_merge_2 5 rfl rfl)
theorem dX2_merge_55 : decode cX2_merge 55 = .ok (.aload 5, 2) := dk_25 5 (dk_at dksX2_merge_2 7 rfl rfl)
theorem dX2_merge_57 : decode cX2_merge 57 = .ok (.invokespecial 103, 3) := dk_183 0 103 (dk_at dksX2_merge_2 9 rfl rfl)
theorem dX2_merge_60 : decode cX2_merge 60 = .ok (.athrow, 1) := dk_191 (dk_at dksX2_merge_2 12 rfl rfl)
abbrev cX2_joined : ByteArray := prog_6_method_8_code
def yX2_joined : MethodName := ⟨RX2, "joined", "(LLogCompactor$Template;LLogCompactor$Template;I)LLogCompactor$Template;"⟩
def dkwX2_joined_1 : List UInt8 := [182, 0, 117, 176]
abbrev dktX2_joined_1 : List UInt8 := dkwX2_joined_1 ++ []
def dkwX2_joined_0 : List UInt8 := [42, 43, 180, 0, 116, 182, 0, 73, 154, 0, 14, 187, 0, 61, 89, 16, 12, 28, 183, 0, 63, 191, 42, 43]
abbrev dktX2_joined_0 : List UInt8 := dkwX2_joined_0 ++ dktX2_joined_1
theorem dksX2_joined_0 : cX2_joined.data.toList.drop 0 = dktX2_joined_0 := by decide +kernel
theorem dksX2_joined_1 : cX2_joined.data.toList.drop 24 = dktX2_joined_1 := dk_seg dksX2_joined_0 24 rfl rfl
theorem dX2_joined_0 : decode cX2_joined 0 = .ok (.aload_n 0, 1) := dk_42 (dk_at dksX2_joined_0 0 rfl rfl)
theorem dX2_joined_1 : decode cX2_joined 1 = .ok (.aload_n 1, 1) := dk_43 (dk_at dksX2_joined_0 1 rfl rfl)
theorem dX2_joined_2 : decode cX2_joined 2 = .ok (.getfield 116, 3) := dk_180 0 116 (dk_at dksX2_joined_0 2 rfl rfl)
theorem dX2_joined_5 : decode cX2_joined 5 = .ok (.invokevirtual 73, 3) := dk_182 0 73 (dk_at dksX2_joined_0 5 rfl rfl)
theorem dX2_joined_8 : decode cX2_joined 8 = .ok (.ifCond .ne 14, 3) := dk_154 0 14 (dk_at dksX2_joined_0 8 rfl rfl)
theorem dX2_joined_11 : decode cX2_joined 11 = .ok (.new 61, 3) := dk_187 0 61 (dk_at dksX2_joined_0 11 rfl rfl)
theorem dX2_joined_14 : decode cX2_joined 14 = .ok (.dup, 1) := dk_89 (dk_at dksX2_joined_0 14 rfl rfl)
theorem dX2_joined_15 : decode cX2_joined 15 = .ok (.bipush 12, 2) := dk_16 12 (dk_at dksX2_joined_0 15 rfl rfl)
theorem dX2_joined_17 : decode cX2_joined 17 = .ok (.iload_n 2, 1) := dk_28 (dk_at dksX2_joined_0 17 rfl rfl)
theorem dX2_joined_18 : decode cX2_joined 18 = .ok (.invokespecial 63, 3) := dk_183 0 63 (dk_at dksX2_joined_0 18 rfl rfl)
theorem dX2_joined_21 : decode cX2_joined 21 = .ok (.athrow, 1) := dk_191 (dk_at dksX2_joined_0 21 rfl rfl)
theorem dX2_joined_22 : decode cX2_joined 22 = .ok (.aload_n 0, 1) := dk_42 (dk_at dksX2_joined_0 22 rfl rfl)
theorem dX2_joined_23 : decode cX2_joined 23 = .ok (.aload_n 1, 1) := dk_43 (dk_at dksX2_joined_0 23 rfl rfl)
theorem dX2_joined_24 : decode cX2_joined 24 = .ok (.invokevirtual 117, 3) := dk_182 0 117 (dk_at dksX2_joined_1 0 rfl rfl)
theorem dX2_joined_27 : decode cX2_joined 27 = .ok (.areturn, 1) := dk_176 (dk_at dksX2_joined_1 3 rfl rfl)
abbrev cX2_templateOf : ByteArray := prog_6_method_19_code
def yX2_templateOf : MethodName := ⟨RX2, "templateOf", "(I)I"⟩
def dkwX2_templateOf_2 : List UInt8 := [167, 255, 213, 28, 172]
abbrev dktX2_templateOf_2 : List UInt8 := dkwX2_templateOf_2 ++ []
def dkwX2_templateOf_1 : List UInt8 := [50, 180, 0, 148, 27, 184, 0, 106, 182, 0, 218, 153, 0, 7, 29, 167, 0, 4, 28, 61, 132, 3, 1]
abbrev dktX2_templateOf_1 : List UInt8 := dkwX2_templateOf_1 ++ dktX2_templateOf_2
def dkwX2_templateOf_0 : List UInt8 := [2, 61, 3, 62, 29, 16, 12, 162, 0, 43, 42, 180, 0, 20, 29, 50, 198, 0, 26, 42, 180, 0, 20, 29]
abbrev dktX2_templateOf_0 : List UInt8 := dkwX2_templateOf_0 ++ dktX2_templateOf_1
theorem dksX2_templateOf_0 : cX2_templateOf.data.toList.drop 0 = dktX2_templateOf_0 := by decide +kernel
theorem dksX2_templateOf_1 : cX2_templateOf.data.toList.drop 24 = dktX2_templateOf_1 := dk_seg dksX2_templateOf_0 24 rfl rfl
theorem dksX2_templateOf_2 : cX2_templateOf.data.toList.drop 47 = dktX2_templateOf_2 := dk_seg dksX2_templateOf_1 23 rfl rfl
theorem dX2_templateOf_0 : decode cX2_templateOf 0 = .ok (.iconst (-1), 1) := dk_2 (dk_at dksX2_templateOf_0 0 rfl rfl)
theorem dX2_templateOf_1 : decode cX2_templateOf 1 = .ok (.istore_n 2, 1) := dk_61 (dk_at dksX2_templateOf_0 1 rfl rfl)
theorem dX2_templateOf_2 : decode cX2_templateOf 2 = .ok (.iconst 0, 1) := dk_3 (dk_at dksX2_templateOf_0 2 rfl rfl)
theorem dX2_templateOf_3 : decode cX2_templateOf 3 = .ok (.istore_n 3, 1) := dk_62 (dk_at dksX2_templateOf_0 3 rfl rfl)
theorem dX2_templateOf_4 : decode cX2_templateOf 4 = .ok (.iload_n 3, 1) := dk_29 (dk_at dksX2_templateOf_0 4 rfl rfl)
theorem dX2_templateOf_5 : decode cX2_templateOf 5 = .ok (.bipush 12, 2) := dk_16 12 (dk_at dksX2_templateOf_0 5 rfl rfl)
theorem dX2_templateOf_7 : decode cX2_templateOf 7 = .ok (.if_icmp .ge 43, 3) := dk_162 0 43 (dk_at dksX2_templateOf_0 7 rfl rfl)
theorem dX2_templateOf_10 : decode cX2_templateOf 10 = .ok (.aload_n 0, 1) := dk_42 (dk_at dksX2_templateOf_0 10 rfl rfl)
theorem dX2_templateOf_11 : decode cX2_templateOf 11 = .ok (.getfield 20, 3) := dk_180 0 20 (dk_at dksX2_templateOf_0 11 rfl rfl)
theorem dX2_templateOf_14 : decode cX2_templateOf 14 = .ok (.iload_n 3, 1) := dk_29 (dk_at dksX2_templateOf_0 14 rfl rfl)
theorem dX2_templateOf_15 : decode cX2_templateOf 15 = .ok (.aaload, 1) := dk_50 (dk_at dksX2_templateOf_0 15 rfl rfl)
theorem dX2_templateOf_16 : decode cX2_templateOf 16 = .ok (.ifnull 26, 3) := dk_198 0 26 (dk_at dksX2_templateOf_0 16 rfl rfl)
theorem dX2_templateOf_19 : decode cX2_templateOf 19 = .ok (.aload_n 0, 1) := dk_42 (dk_at dksX2_templateOf_0 19 rfl rfl)
theorem dX2_templateOf_20 : decode cX2_templateOf 20 = .ok (.getfield 20, 3) := dk_180 0 20 (dk_at dksX2_templateOf_0 20 rfl rfl)
theorem dX2_templateOf_23 : decode cX2_templateOf 23 = .ok (.iload_n 3, 1) := dk_29 (dk_at dksX2_templateOf_0 23 rfl rfl)
theorem dX2_templateOf_24 : decode cX2_templateOf 24 = .ok (.aaload, 1) := dk_50 (dk_at dksX2_templateOf_1 0 rfl rfl)
theorem dX2_templateOf_25 : decode cX2_templateOf 25 = .ok (.getfield 148, 3) := dk_180 0 148 (dk_at dksX2_templateOf_1 1 rfl rfl)
theorem dX2_templateOf_28 : decode cX2_templateOf 28 = .ok (.iload_n 1, 1) := dk_27 (dk_at dksX2_templateOf_1 4 rfl rfl)
theorem dX2_templateOf_29 : decode cX2_templateOf 29 = .ok (.invokestatic 106, 3) := dk_184 0 106 (dk_at dksX2_templateOf_1 5 rfl rfl)
theorem dX2_templateOf_32 : decode cX2_templateOf 32 = .ok (.invokevirtual 218, 3) := dk_182 0 218 (dk_at dksX2_templateOf_1 8 rfl rfl)
theorem dX2_templateOf_35 : decode cX2_templateOf 35 = .ok (.ifCond .eq 7, 3) := dk_153 0 7 (dk_at dksX2_templateOf_1 11 rfl rfl)
theorem dX2_templateOf_38 : decode cX2_templateOf 38 = .ok (.iload_n 3, 1) := dk_29 (dk_at dksX2_templateOf_1 14 rfl rfl)
theorem dX2_templateOf_39 : decode cX2_templateOf 39 = .ok (.goto 4, 3) := dk_167 0 4 (dk_at dksX2_templateOf_1 15 rfl rfl)
theorem dX2_templateOf_42 : decode cX2_templateOf 42 = .ok (.iload_n 2, 1) := dk_28 (dk_at dksX2_templateOf_1 18 rfl rfl)
theorem dX2_templateOf_43 : decode cX2_templateOf 43 = .ok (.istore_n 2, 1) := dk_61 (dk_at dksX2_templateOf_1 19 rfl rfl)
theorem dX2_templateOf_44 : decode cX2_templateOf 44 = .ok (.iinc 3 1, 3) := dk_132 3 1 (dk_at dksX2_templateOf_1 20 rfl rfl)
theorem dX2_templateOf_47 : decode cX2_templateOf 47 = .ok (.goto (-43), 3) := dk_167 255 213 (dk_at dksX2_templateOf_2 0 rfl rfl)
theorem dX2_templateOf_50 : decode cX2_templateOf 50 = .ok (.iload_n 2, 1) := dk_28 (dk_at dksX2_templateOf_2 3 rfl rfl)
theorem dX2_templateOf_51 : decode cX2_templateOf 51 = .ok (.ireturn, 1) := dk_172 (dk_at dksX2_templateOf_2 4 rfl rfl)
abbrev cX2_add : ByteArray := prog_6_method_7_code
def yX2_add : MethodName := ⟨RX2, "add", "(LLogCompactor$Line;)I"⟩
def dkwX2_add_5 : List UInt8 := [54, 4, 42, 180, 0, 20, 29, 42, 180, 0, 12, 25, 5, 184, 0, 112, 83, 29, 172]
abbrev dktX2_add_5 : List UInt8 := dkwX2_add_5 ++ []
def dkwX2_add_4 : List UInt8 := [182, 0, 51, 54, 4, 187, 0, 9, 89, 183, 0, 11, 58, 5, 25, 5, 28, 184, 0, 106, 182, 0, 51]
abbrev dktX2_add_4 : List UInt8 := dkwX2_add_4 ++ dktX2_add_5
def dkwX2_add_3 : List UInt8 := [167, 0, 17, 58, 4, 187, 0, 61, 89, 4, 28, 25, 4, 183, 0, 103, 191, 42, 180, 0, 12, 43]
abbrev dktX2_add_3 : List UInt8 := dkwX2_add_3 ++ dktX2_add_4
def dkwX2_add_2 : List UInt8 := [43, 28, 182, 0, 96, 83, 42, 180, 0, 12, 43, 182, 0, 51, 54, 4, 29, 172, 42, 182, 0, 100, 62]
abbrev dktX2_add_2 : List UInt8 := dkwX2_add_2 ++ dktX2_add_3
def dkwX2_add_1 : List UInt8 := [182, 0, 92, 167, 0, 4, 29, 62, 29, 2, 159, 0, 32, 42, 180, 0, 20, 29, 42, 180, 0, 20, 29, 50]
abbrev dktX2_add_1 : List UInt8 := dkwX2_add_1 ++ dktX2_add_2
def dkwX2_add_0 : List UInt8 := [42, 180, 0, 12, 182, 0, 84, 61, 42, 43, 3, 182, 0, 92, 62, 29, 2, 160, 0, 12, 42, 43, 4]
abbrev dktX2_add_0 : List UInt8 := dkwX2_add_0 ++ dktX2_add_1
theorem dksX2_add_0 : cX2_add.data.toList.drop 0 = dktX2_add_0 := by decide +kernel
theorem dksX2_add_1 : cX2_add.data.toList.drop 23 = dktX2_add_1 := dk_seg dksX2_add_0 23 rfl rfl
theorem dksX2_add_2 : cX2_add.data.toList.drop 47 = dktX2_add_2 := dk_seg dksX2_add_1 24 rfl rfl
theorem dksX2_add_3 : cX2_add.data.toList.drop 70 = dktX2_add_3 := dk_seg dksX2_add_2 23 rfl rfl
theorem dksX2_add_4 : cX2_add.data.toList.drop 92 = dktX2_add_4 := dk_seg dksX2_add_3 22 rfl rfl
theorem dksX2_add_5 : cX2_add.data.toList.drop 115 = dktX2_add_5 := dk_seg dksX2_add_4 23 rfl rfl
theorem dX2_add_0 : decode cX2_add 0 = .ok (.aload_n 0, 1) := dk_42 (dk_at dksX2_add_0 0 rfl rfl)
theorem dX2_add_1 : decode cX2_add 1 = .ok (.getfield 12, 3) := dk_180 0 12 (dk_at dksX2_add_0 1 rfl rfl)
theorem dX2_add_4 : decode cX2_add 4 = .ok (.invokevirtual 84, 3) := dk_182 0 84 (dk_at dksX2_add_0 4 rfl rfl)
theorem dX2_add_7 : decode cX2_add 7 = .ok (.istore_n 2, 1) := dk_61 (dk_at dksX2_add_0 7 rfl rfl)
theorem dX2_add_8 : decode cX2_add 8 = .ok (.aload_n 0, 1) := dk_42 (dk_at dksX2_add_0 8 rfl rfl)
theorem dX2_add_9 : decode cX2_add 9 = .ok (.aload_n 1, 1) := dk_43 (dk_at dksX2_add_0 9 rfl rfl)
theorem dX2_add_10 : decode cX2_add 10 = .ok (.iconst 0, 1) := dk_3 (dk_at dksX2_add_0 10 rfl rfl)
theorem dX2_add_11 : decode cX2_add 11 = .ok (.invokevirtual 92, 3) := dk_182 0 92 (dk_at dksX2_add_0 11 rfl rfl)
theorem dX2_add_14 : decode cX2_add 14 = .ok (.istore_n 3, 1) := dk_62 (dk_at dksX2_add_0 14 rfl rfl)
theorem dX2_add_15 : decode cX2_add 15 = .ok (.iload_n 3, 1) := dk_29 (dk_at dksX2_add_0 15 rfl rfl)
theorem dX2_add_16 : decode cX2_add 16 = .ok (.iconst (-1), 1) := dk_2 (dk_at dksX2_add_0 16 rfl rfl)
theorem dX2_add_17 : decode cX2_add 17 = .ok (.if_icmp .ne 12, 3) := dk_160 0 12 (dk_at dksX2_add_0 17 rfl rfl)
theorem dX2_add_20 : decode cX2_add 20 = .ok (.aload_n 0, 1) := dk_42 (dk_at dksX2_add_0 20 rfl rfl)
theorem dX2_add_21 : decode cX2_add 21 = .ok (.aload_n 1, 1) := dk_43 (dk_at dksX2_add_0 21 rfl rfl)
theorem dX2_add_22 : decode cX2_add 22 = .ok (.iconst 1, 1) := dk_4 (dk_at dksX2_add_0 22 rfl rfl)
theorem dX2_add_23 : decode cX2_add 23 = .ok (.invokevirtual 92, 3) := dk_182 0 92 (dk_at dksX2_add_1 0 rfl rfl)
theorem dX2_add_26 : decode cX2_add 26 = .ok (.goto 4, 3) := dk_167 0 4 (dk_at dksX2_add_1 3 rfl rfl)
theorem dX2_add_29 : decode cX2_add 29 = .ok (.iload_n 3, 1) := dk_29 (dk_at dksX2_add_1 6 rfl rfl)
theorem dX2_add_30 : decode cX2_add 30 = .ok (.istore_n 3, 1) := dk_62 (dk_at dksX2_add_1 7 rfl rfl)
theorem dX2_add_31 : decode cX2_add 31 = .ok (.iload_n 3, 1) := dk_29 (dk_at dksX2_add_1 8 rfl rfl)
theorem dX2_add_32 : decode cX2_add 32 = .ok (.iconst (-1), 1) := dk_2 (dk_at dksX2_add_1 9 rfl rfl)
theorem dX2_add_33 : decode cX2_add 33 = .ok (.if_icmp .eq 32, 3) := dk_159 0 32 (dk_at dksX2_add_1 10 rfl rfl)
theorem dX2_add_36 : decode cX2_add 36 = .ok (.aload_n 0, 1) := dk_42 (dk_at dksX2_add_1 13 rfl rfl)
theorem dX2_add_37 : decode cX2_add 37 = .ok (.getfield 20, 3) := dk_180 0 20 (dk_at dksX2_add_1 14 rfl rfl)
theorem dX2_add_40 : decode cX2_add 40 = .ok (.iload_n 3, 1) := dk_29 (dk_at dksX2_add_1 17 rfl rfl)
theorem dX2_add_41 : decode cX2_add 41 = .ok (.aload_n 0, 1) := dk_42 (dk_at dksX2_add_1 18 rfl rfl)
theorem dX2_add_42 : decode cX2_add 42 = .ok (.getfield 20, 3) := dk_180 0 20 (dk_at dksX2_add_1 19 rfl rfl)
theorem dX2_add_45 : decode cX2_add 45 = .ok (.iload_n 3, 1) := dk_29 (dk_at dksX2_add_1 22 rfl rfl)
theorem dX2_add_46 : decode cX2_add 46 = .ok (.aaload, 1) := dk_50 (dk_at dksX2_add_1 23 rfl rfl)
theorem dX2_add_47 : decode cX2_add 47 = .ok (.aload_n 1, 1) := dk_43 (dk_at dksX2_add_2 0 rfl rfl)
theorem dX2_add_48 : decode cX2_add 48 = .ok (.iload_n 2, 1) := dk_28 (dk_at dksX2_add_2 1 rfl rfl)
theorem dX2_add_49 : decode cX2_add 49 = .ok (.invokevirtual 96, 3) := dk_182 0 96 (dk_at dksX2_add_2 2 rfl rfl)
theorem dX2_add_52 : decode cX2_add 52 = .ok (.aastore, 1) := dk_83 (dk_at dksX2_add_2 5 rfl rfl)
theorem dX2_add_53 : decode cX2_add 53 = .ok (.aload_n 0, 1) := dk_42 (dk_at dksX2_add_2 6 rfl rfl)
theorem dX2_add_54 : decode cX2_add 54 = .ok (.getfield 12, 3) := dk_180 0 12 (dk_at dksX2_add_2 7 rfl rfl)
theorem dX2_add_57 : decode cX2_add 57 = .ok (.aload_n 1, 1) := dk_43 (dk_at dksX2_add_2 10 rfl rfl)
theorem dX2_add_58 : decode cX2_add 58 = .ok (.invokevirtual 51, 3) := dk_182 0 51 (dk_at dksX2_add_2 11 rfl rfl)
theorem dX2_add_61 : decode cX2_add 61 = .ok (.istore 4, 2) := dk_54 4 (dk_at dksX2_add_2 14 rfl rfl)
theorem dX2_add_63 : decode cX2_add 63 = .ok (.iload_n 3, 1) := dk_29 (dk_at dksX2_add_2 16 rfl rfl)
theorem dX2_add_64 : decode cX2_add 64 = .ok (.ireturn, 1) := dk_172 (dk_at dksX2_add_2 17 rfl rfl)
theorem dX2_add_65 : decode cX2_add 65 = .ok (.aload_n 0, 1) := dk_42 (dk_at dksX2_add_2 18 rfl rfl)
theorem dX2_add_66 : decode cX2_add 66 = .ok (.invokevirtual 100, 3) := dk_182 0 100 (dk_at dksX2_add_2 19 rfl rfl)
theorem dX2_add_69 : decode cX2_add 69 = .ok (.istore_n 3, 1) := dk_62 (dk_at dksX2_add_2 22 rfl rfl)
theorem dX2_add_70 : decode cX2_add 70 = .ok (.goto 17, 3) := dk_167 0 17 (dk_at dksX2_add_3 0 rfl rfl)
theorem dX2_add_73 : decode cX2_add 73 = .ok (.astore 4, 2) := dk_58 4 (dk_at dksX2_add_3 3 rfl rfl)
theorem dX2_add_75 : decode cX2_add 75 = .ok (.new 61, 3) := dk_187 0 61 (dk_at dksX2_add_3 5 rfl rfl)
theorem dX2_add_78 : decode cX2_add 78 = .ok (.dup, 1) := dk_89 (dk_at dksX2_add_3 8 rfl rfl)
theorem dX2_add_79 : decode cX2_add 79 = .ok (.iconst 1, 1) := dk_4 (dk_at dksX2_add_3 9 rfl rfl)
theorem dX2_add_80 : decode cX2_add 80 = .ok (.iload_n 2, 1) := dk_28 (dk_at dksX2_add_3 10 rfl rfl)
theorem dX2_add_81 : decode cX2_add 81 = .ok (.aload 4, 2) := dk_25 4 (dk_at dksX2_add_3 11 rfl rfl)
theorem dX2_add_83 : decode cX2_add 83 = .ok (.invokespecial 103, 3) := dk_183 0 103 (dk_at dksX2_add_3 13 rfl rfl)
theorem dX2_add_86 : decode cX2_add 86 = .ok (.athrow, 1) := dk_191 (dk_at dksX2_add_3 16 rfl rfl)
theorem dX2_add_87 : decode cX2_add 87 = .ok (.aload_n 0, 1) := dk_42 (dk_at dksX2_add_3 17 rfl rfl)
theorem dX2_add_88 : decode cX2_add 88 = .ok (.getfield 12, 3) := dk_180 0 12 (dk_at dksX2_add_3 18 rfl rfl)
theorem dX2_add_91 : decode cX2_add 91 = .ok (.aload_n 1, 1) := dk_43 (dk_at dksX2_add_3 21 rfl rfl)
theorem dX2_add_92 : decode cX2_add 92 = .ok (.invokevirtual 51, 3) := dk_182 0 51 (dk_at dksX2_add_4 0 rfl rfl)
theorem dX2_add_95 : decode cX2_add 95 = .ok (.istore 4, 2) := dk_54 4 (dk_at dksX2_add_4 3 rfl rfl)
theorem dX2_add_97 : decode cX2_add 97 = .ok (.new 9, 3) := dk_187 0 9 (dk_at dksX2_add_4 5 rfl rfl)
theorem dX2_add_100 : decode cX2_add 100 = .ok (.dup, 1) := dk_89 (dk_at dksX2_add_4 8 rfl rfl)
theorem dX2_add_101 : decode cX2_add 101 = .ok (.invokespecial 11, 3) := dk_183 0 11 (dk_at dksX2_add_4 9 rfl rfl)
theorem dX2_add_104 : decode cX2_add 104 = .ok (.astore 5, 2) := dk_58 5 (dk_at dksX2_add_4 12 rfl rfl)
theorem dX2_add_106 : decode cX2_add 106 = .ok (.aload 5, 2) := dk_25 5 (dk_at dksX2_add_4 14 rfl rfl)
theorem dX2_add_108 : decode cX2_add 108 = .ok (.iload_n 2, 1) := dk_28 (dk_at dksX2_add_4 16 rfl rfl)
theorem dX2_add_109 : decode cX2_add 109 = .ok (.invokestatic 106, 3) := dk_184 0 106 (dk_at dksX2_add_4 17 rfl rfl)
theorem dX2_add_112 : decode cX2_add 112 = .ok (.invokevirtual 51, 3) := dk_182 0 51 (dk_at dksX2_add_4 20 rfl rfl)
theorem dX2_add_115 : decode cX2_add 115 = .ok (.istore 4, 2) := dk_54 4 (dk_at dksX2_add_5 0 rfl rfl)
theorem dX2_add_117 : decode cX2_add 117 = .ok (.aload_n 0, 1) := dk_42 (dk_at dksX2_add_5 2 rfl rfl)
theorem dX2_add_118 : decode cX2_add 118 = .ok (.getfield 20, 3) := dk_180 0 20 (dk_at dksX2_add_5 3 rfl rfl)
theorem dX2_add_121 : decode cX2_add 121 = .ok (.iload_n 3, 1) := dk_29 (dk_at dksX2_add_5 6 rfl rfl)
theorem dX2_add_122 : decode cX2_add 122 = .ok (.aload_n 0, 1) := dk_42 (dk_at dksX2_add_5 7 rfl rfl)
theorem dX2_add_123 : decode cX2_add 123 = .ok (.getfield 12, 3) := dk_180 0 12 (dk_at dksX2_add_5 8 rfl rfl)
theorem dX2_add_126 : decode cX2_add 126 = .ok (.aload 5, 2) := dk_25 5 (dk_at dksX2_add_5 11 rfl rfl)
theorem dX2_add_128 : decode cX2_add 128 = .ok (.invokestatic 112, 3) := dk_184 0 112 (dk_at dksX2_add_5 13 rfl rfl)
theorem dX2_add_131 : decode cX2_add 131 = .ok (.aastore, 1) := dk_83 (dk_at dksX2_add_5 16 rfl rfl)
theorem dX2_add_132 : decode cX2_add 132 = .ok (.iload_n 3, 1) := dk_29 (dk_at dksX2_add_5 17 rfl rfl)
theorem dX2_add_133 : decode cX2_add 133 = .ok (.ireturn, 1) := dk_172 (dk_at dksX2_add_5 18 rfl rfl)
abbrev cX2_best : ByteArray := prog_6_method_6_code
def yX2_best : MethodName := ⟨RX2, "best", "(LLogCompactor$Line;Z)I"⟩
def dkwX2_best_2 : List UInt8 := [180, 0, 20, 29, 50, 43, 182, 0, 77, 164, 0, 6, 21, 4, 62, 132, 4, 1, 167, 255, 198, 29, 172]
abbrev dktX2_best_2 : List UInt8 := dkwX2_best_2 ++ []
def dkwX2_best_1 : List UInt8 := [182, 0, 88, 153, 0, 35, 29, 2, 159, 0, 27, 42, 180, 0, 20, 21, 4, 50, 43, 182, 0, 77, 42]
abbrev dktX2_best_1 : List UInt8 := dkwX2_best_1 ++ dktX2_best_2
def dkwX2_best_0 : List UInt8 := [2, 62, 3, 54, 4, 21, 4, 16, 12, 162, 0, 57, 42, 42, 180, 0, 20, 21, 4, 50, 43, 28]
abbrev dktX2_best_0 : List UInt8 := dkwX2_best_0 ++ dktX2_best_1
theorem dksX2_best_0 : cX2_best.data.toList.drop 0 = dktX2_best_0 := by decide +kernel
theorem dksX2_best_1 : cX2_best.data.toList.drop 22 = dktX2_best_1 := dk_seg dksX2_best_0 22 rfl rfl
theorem dksX2_best_2 : cX2_best.data.toList.drop 45 = dktX2_best_2 := dk_seg dksX2_best_1 23 rfl rfl
theorem dX2_best_0 : decode cX2_best 0 = .ok (.iconst (-1), 1) := dk_2 (dk_at dksX2_best_0 0 rfl rfl)
theorem dX2_best_1 : decode cX2_best 1 = .ok (.istore_n 3, 1) := dk_62 (dk_at dksX2_best_0 1 rfl rfl)
theorem dX2_best_2 : decode cX2_best 2 = .ok (.iconst 0, 1) := dk_3 (dk_at dksX2_best_0 2 rfl rfl)
theorem dX2_best_3 : decode cX2_best 3 = .ok (.istore 4, 2) := dk_54 4 (dk_at dksX2_best_0 3 rfl rfl)
theorem dX2_best_5 : decode cX2_best 5 = .ok (.iload 4, 2) := dk_21 4 (dk_at dksX2_best_0 5 rfl rfl)
theorem dX2_best_7 : decode cX2_best 7 = .ok (.bipush 12, 2) := dk_16 12 (dk_at dksX2_best_0 7 rfl rfl)
theorem dX2_best_9 : decode cX2_best 9 = .ok (.if_icmp .ge 57, 3) := dk_162 0 57 (dk_at dksX2_best_0 9 rfl rfl)
theorem dX2_best_12 : decode cX2_best 12 = .ok (.aload_n 0, 1) := dk_42 (dk_at dksX2_best_0 12 rfl rfl)
theorem dX2_best_13 : decode cX2_best 13 = .ok (.aload_n 0, 1) := dk_42 (dk_at dksX2_best_0 13 rfl rfl)
theorem dX2_best_14 : decode cX2_best 14 = .ok (.getfield 20, 3) := dk_180 0 20 (dk_at dksX2_best_0 14 rfl rfl)
theorem dX2_best_17 : decode cX2_best 17 = .ok (.iload 4, 2) := dk_21 4 (dk_at dksX2_best_0 17 rfl rfl)
theorem dX2_best_19 : decode cX2_best 19 = .ok (.aaload, 1) := dk_50 (dk_at dksX2_best_0 19 rfl rfl)
theorem dX2_best_20 : decode cX2_best 20 = .ok (.aload_n 1, 1) := dk_43 (dk_at dksX2_best_0 20 rfl rfl)
theorem dX2_best_21 : decode cX2_best 21 = .ok (.iload_n 2, 1) := dk_28 (dk_at dksX2_best_0 21 rfl rfl)
theorem dX2_best_22 : decode cX2_best 22 = .ok (.invokevirtual 88, 3) := dk_182 0 88 (dk_at dksX2_best_1 0 rfl rfl)
theorem dX2_best_25 : decode cX2_best 25 = .ok (.ifCond .eq 35, 3) := dk_153 0 35 (dk_at dksX2_best_1 3 rfl rfl)
theorem dX2_best_28 : decode cX2_best 28 = .ok (.iload_n 3, 1) := dk_29 (dk_at dksX2_best_1 6 rfl rfl)
theorem dX2_best_29 : decode cX2_best 29 = .ok (.iconst (-1), 1) := dk_2 (dk_at dksX2_best_1 7 rfl rfl)
theorem dX2_best_30 : decode cX2_best 30 = .ok (.if_icmp .eq 27, 3) := dk_159 0 27 (dk_at dksX2_best_1 8 rfl rfl)
theorem dX2_best_33 : decode cX2_best 33 = .ok (.aload_n 0, 1) := dk_42 (dk_at dksX2_best_1 11 rfl rfl)
theorem dX2_best_34 : decode cX2_best 34 = .ok (.getfield 20, 3) := dk_180 0 20 (dk_at dksX2_best_1 12 rfl rfl)
theorem dX2_best_37 : decode cX2_best 37 = .ok (.iload 4, 2) := dk_21 4 (dk_at dksX2_best_1 15 rfl rfl)
theorem dX2_best_39 : decode cX2_best 39 = .ok (.aaload, 1) := dk_50 (dk_at dksX2_best_1 17 rfl rfl)
theorem dX2_best_40 : decode cX2_best 40 = .ok (.aload_n 1, 1) := dk_43 (dk_at dksX2_best_1 18 rfl rfl)
theorem dX2_best_41 : decode cX2_best 41 = .ok (.invokevirtual 77, 3) := dk_182 0 77 (dk_at dksX2_best_1 19 rfl rfl)
theorem dX2_best_44 : decode cX2_best 44 = .ok (.aload_n 0, 1) := dk_42 (dk_at dksX2_best_1 22 rfl rfl)
theorem dX2_best_45 : decode cX2_best 45 = .ok (.getfield 20, 3) := dk_180 0 20 (dk_at dksX2_best_2 0 rfl rfl)
theorem dX2_best_48 : decode cX2_best 48 = .ok (.iload_n 3, 1) := dk_29 (dk_at dksX2_best_2 3 rfl rfl)
theorem dX2_best_49 : decode cX2_best 49 = .ok (.aaload, 1) := dk_50 (dk_at dksX2_best_2 4 rfl rfl)
theorem dX2_best_50 : decode cX2_best 50 = .ok (.aload_n 1, 1) := dk_43 (dk_at dksX2_best_2 5 rfl rfl)
theorem dX2_best_51 : decode cX2_best 51 = .ok (.invokevirtual 77, 3) := dk_182 0 77 (dk_at dksX2_best_2 6 rfl rfl)
theorem dX2_best_54 : decode cX2_best 54 = .ok (.if_icmp .le 6, 3) := dk_164 0 6 (dk_at dksX2_best_2 9 rfl rfl)
theorem dX2_best_57 : decode cX2_best 57 = .ok (.iload 4, 2) := dk_21 4 (dk_at dksX2_best_2 12 rfl rfl)
theorem dX2_best_59 : decode cX2_best 59 = .ok (.istore_n 3, 1) := dk_62 (dk_at dksX2_best_2 14 rfl rfl)
theorem dX2_best_60 : decode cX2_best 60 = .ok (.iinc 4 1, 3) := dk_132 4 1 (dk_at dksX2_best_2 15 rfl rfl)
theorem dX2_best_63 : decode cX2_best 63 = .ok (.goto (-58), 3) := dk_167 255 198 (dk_at dksX2_best_2 18 rfl rfl)
theorem dX2_best_66 : decode cX2_best 66 = .ok (.iload_n 3, 1) := dk_29 (dk_at dksX2_best_2 21 rfl rfl)
theorem dX2_best_67 : decode cX2_best 67 = .ok (.ireturn, 1) := dk_172 (dk_at dksX2_best_2 22 rfl rfl)
abbrev cX2_canTake : ByteArray := prog_6_method_5_code
def yX2_canTake : MethodName := ⟨RX2, "canTake", "(LLogCompactor$Template;LLogCompactor$Line;Z)Z"⟩
def dkwX2_canTake_2 : List UInt8 := [161, 0, 7, 4, 167, 0, 4, 3, 172]
abbrev dktX2_canTake_2 : List UInt8 := dkwX2_canTake_2 ++ []
def dkwX2_canTake_1 : List UInt8 := [153, 0, 30, 16, 100, 43, 44, 182, 0, 77, 104, 42, 180, 0, 24, 44, 180, 0, 81, 182, 0, 84, 104]
abbrev dktX2_canTake_1 : List UInt8 := dkwX2_canTake_1 ++ dktX2_canTake_2
def dkwX2_canTake_0 : List UInt8 := [43, 199, 0, 5, 3, 172, 29, 154, 0, 9, 43, 44, 182, 0, 66, 172, 43, 44, 180, 0, 70, 182, 0, 73]
abbrev dktX2_canTake_0 : List UInt8 := dkwX2_canTake_0 ++ dktX2_canTake_1
theorem dksX2_canTake_0 : cX2_canTake.data.toList.drop 0 = dktX2_canTake_0 := by decide +kernel
theorem dksX2_canTake_1 : cX2_canTake.data.toList.drop 24 = dktX2_canTake_1 := dk_seg dksX2_canTake_0 24 rfl rfl
theorem dksX2_canTake_2 : cX2_canTake.data.toList.drop 47 = dktX2_canTake_2 := dk_seg dksX2_canTake_1 23 rfl rfl
theorem dX2_canTake_0 : decode cX2_canTake 0 = .ok (.aload_n 1, 1) := dk_43 (dk_at dksX2_canTake_0 0 rfl rfl)
theorem dX2_canTake_1 : decode cX2_canTake 1 = .ok (.ifnonnull 5, 3) := dk_199 0 5 (dk_at dksX2_canTake_0 1 rfl rfl)
theorem dX2_canTake_4 : decode cX2_canTake 4 = .ok (.iconst 0, 1) := dk_3 (dk_at dksX2_canTake_0 4 rfl rfl)
theorem dX2_canTake_5 : decode cX2_canTake 5 = .ok (.ireturn, 1) := dk_172 (dk_at dksX2_canTake_0 5 rfl rfl)
theorem dX2_canTake_6 : decode cX2_canTake 6 = .ok (.iload_n 3, 1) := dk_29 (dk_at dksX2_canTake_0 6 rfl rfl)
theorem dX2_canTake_7 : decode cX2_canTake 7 = .ok (.ifCond .ne 9, 3) := dk_154 0 9 (dk_at dksX2_canTake_0 7 rfl rfl)
theorem dX2_canTake_10 : decode cX2_canTake 10 = .ok (.aload_n 1, 1) := dk_43 (dk_at dksX2_canTake_0 10 rfl rfl)
theorem dX2_canTake_11 : decode cX2_canTake 11 = .ok (.aload_n 2, 1) := dk_44 (dk_at dksX2_canTake_0 11 rfl rfl)
theorem dX2_canTake_12 : decode cX2_canTake 12 = .ok (.invokevirtual 66, 3) := dk_182 0 66 (dk_at dksX2_canTake_0 12 rfl rfl)
theorem dX2_canTake_15 : decode cX2_canTake 15 = .ok (.ireturn, 1) := dk_172 (dk_at dksX2_canTake_0 15 rfl rfl)
theorem dX2_canTake_16 : decode cX2_canTake 16 = .ok (.aload_n 1, 1) := dk_43 (dk_at dksX2_canTake_0 16 rfl rfl)
theorem dX2_canTake_17 : decode cX2_canTake 17 = .ok (.aload_n 2, 1) := dk_44 (dk_at dksX2_canTake_0 17 rfl rfl)
theorem dX2_canTake_18 : decode cX2_canTake 18 = .ok (.getfield 70, 3) := dk_180 0 70 (dk_at dksX2_canTake_0 18 rfl rfl)
theorem dX2_canTake_21 : decode cX2_canTake 21 = .ok (.invokevirtual 73, 3) := dk_182 0 73 (dk_at dksX2_canTake_0 21 rfl rfl)
theorem dX2_canTake_24 : decode cX2_canTake 24 = .ok (.ifCond .eq 30, 3) := dk_153 0 30 (dk_at dksX2_canTake_1 0 rfl rfl)
theorem dX2_canTake_27 : decode cX2_canTake 27 = .ok (.bipush 100, 2) := dk_16 100 (dk_at dksX2_canTake_1 3 rfl rfl)
theorem dX2_canTake_29 : decode cX2_canTake 29 = .ok (.aload_n 1, 1) := dk_43 (dk_at dksX2_canTake_1 5 rfl rfl)
theorem dX2_canTake_30 : decode cX2_canTake 30 = .ok (.aload_n 2, 1) := dk_44 (dk_at dksX2_canTake_1 6 rfl rfl)
theorem dX2_canTake_31 : decode cX2_canTake 31 = .ok (.invokevirtual 77, 3) := dk_182 0 77 (dk_at dksX2_canTake_1 7 rfl rfl)
theorem dX2_canTake_34 : decode cX2_canTake 34 = .ok (.imul, 1) := dk_104 (dk_at dksX2_canTake_1 10 rfl rfl)
theorem dX2_canTake_35 : decode cX2_canTake 35 = .ok (.aload_n 0, 1) := dk_42 (dk_at dksX2_canTake_1 11 rfl rfl)
theorem dX2_canTake_36 : decode cX2_canTake 36 = .ok (.getfield 24, 3) := dk_180 0 24 (dk_at dksX2_canTake_1 12 rfl rfl)
theorem dX2_canTake_39 : decode cX2_canTake 39 = .ok (.aload_n 2, 1) := dk_44 (dk_at dksX2_canTake_1 15 rfl rfl)
theorem dX2_canTake_40 : decode cX2_canTake 40 = .ok (.getfield 81, 3) := dk_180 0 81 (dk_at dksX2_canTake_1 16 rfl rfl)
theorem dX2_canTake_43 : decode cX2_canTake 43 = .ok (.invokevirtual 84, 3) := dk_182 0 84 (dk_at dksX2_canTake_1 19 rfl rfl)
theorem dX2_canTake_46 : decode cX2_canTake 46 = .ok (.imul, 1) := dk_104 (dk_at dksX2_canTake_1 22 rfl rfl)
theorem dX2_canTake_47 : decode cX2_canTake 47 = .ok (.if_icmp .lt 7, 3) := dk_161 0 7 (dk_at dksX2_canTake_2 0 rfl rfl)
theorem dX2_canTake_50 : decode cX2_canTake 50 = .ok (.iconst 1, 1) := dk_4 (dk_at dksX2_canTake_2 3 rfl rfl)
theorem dX2_canTake_51 : decode cX2_canTake 51 = .ok (.goto 4, 3) := dk_167 0 4 (dk_at dksX2_canTake_2 4 rfl rfl)
theorem dX2_canTake_54 : decode cX2_canTake 54 = .ok (.iconst 0, 1) := dk_3 (dk_at dksX2_canTake_2 7 rfl rfl)
theorem dX2_canTake_55 : decode cX2_canTake 55 = .ok (.ireturn, 1) := dk_172 (dk_at dksX2_canTake_2 8 rfl rfl)
abbrev cX2_free : ByteArray := prog_6_method_4_code
def yX2_free : MethodName := ⟨RX2, "free", "()I"⟩
def dkwX2_free_1 : List UInt8 := [167, 255, 236, 187, 0, 61, 89, 16, 11, 16, 12, 183, 0, 63, 191]
abbrev dktX2_free_1 : List UInt8 := dkwX2_free_1 ++ []
def dkwX2_free_0 : List UInt8 := [3, 60, 27, 16, 12, 162, 0, 20, 42, 180, 0, 20, 27, 50, 199, 0, 5, 27, 172, 132, 1, 1]
abbrev dktX2_free_0 : List UInt8 := dkwX2_free_0 ++ dktX2_free_1
theorem dksX2_free_0 : cX2_free.data.toList.drop 0 = dktX2_free_0 := by decide +kernel
theorem dksX2_free_1 : cX2_free.data.toList.drop 22 = dktX2_free_1 := dk_seg dksX2_free_0 22 rfl rfl
theorem dX2_free_0 : decode cX2_free 0 = .ok (.iconst 0, 1) := dk_3 (dk_at dksX2_free_0 0 rfl rfl)
theorem dX2_free_1 : decode cX2_free 1 = .ok (.istore_n 1, 1) := dk_60 (dk_at dksX2_free_0 1 rfl rfl)
theorem dX2_free_2 : decode cX2_free 2 = .ok (.iload_n 1, 1) := dk_27 (dk_at dksX2_free_0 2 rfl rfl)
theorem dX2_free_3 : decode cX2_free 3 = .ok (.bipush 12, 2) := dk_16 12 (dk_at dksX2_free_0 3 rfl rfl)
theorem dX2_free_5 : decode cX2_free 5 = .ok (.if_icmp .ge 20, 3) := dk_162 0 20 (dk_at dksX2_free_0 5 rfl rfl)
theorem dX2_free_8 : decode cX2_free 8 = .ok (.aload_n 0, 1) := dk_42 (dk_at dksX2_free_0 8 rfl rfl)
theorem dX2_free_9 : decode cX2_free 9 = .ok (.getfield 20, 3) := dk_180 0 20 (dk_at dksX2_free_0 9 rfl rfl)
theorem dX2_free_12 : decode cX2_free 12 = .ok (.iload_n 1, 1) := dk_27 (dk_at dksX2_free_0 12 rfl rfl)
theorem dX2_free_13 : decode cX2_free 13 = .ok (.aaload, 1) := dk_50 (dk_at dksX2_free_0 13 rfl rfl)
theorem dX2_free_14 : decode cX2_free 14 = .ok (.ifnonnull 5, 3) := dk_199 0 5 (dk_at dksX2_free_0 14 rfl rfl)
theorem dX2_free_17 : decode cX2_free 17 = .ok (.iload_n 1, 1) := dk_27 (dk_at dksX2_free_0 17 rfl rfl)
theorem dX2_free_18 : decode cX2_free 18 = .ok (.ireturn, 1) := dk_172 (dk_at dksX2_free_0 18 rfl rfl)
theorem dX2_free_19 : decode cX2_free 19 = .ok (.iinc 1 1, 3) := dk_132 1 1 (dk_at dksX2_free_0 19 rfl rfl)
theorem dX2_free_22 : decode cX2_free 22 = .ok (.goto (-20), 3) := dk_167 255 236 (dk_at dksX2_free_1 0 rfl rfl)
theorem dX2_free_25 : decode cX2_free 25 = .ok (.new 61, 3) := dk_187 0 61 (dk_at dksX2_free_1 3 rfl rfl)
theorem dX2_free_28 : decode cX2_free 28 = .ok (.dup, 1) := dk_89 (dk_at dksX2_free_1 6 rfl rfl)
theorem dX2_free_29 : decode cX2_free 29 = .ok (.bipush 11, 2) := dk_16 11 (dk_at dksX2_free_1 7 rfl rfl)
theorem dX2_free_31 : decode cX2_free 31 = .ok (.bipush 12, 2) := dk_16 12 (dk_at dksX2_free_1 9 rfl rfl)
theorem dX2_free_33 : decode cX2_free 33 = .ok (.invokespecial 63, 3) := dk_183 0 63 (dk_at dksX2_free_1 11 rfl rfl)
theorem dX2_free_36 : decode cX2_free 36 = .ok (.athrow, 1) := dk_191 (dk_at dksX2_free_1 14 rfl rfl)
abbrev cX2_count : ByteArray := prog_6_method_3_code
def yX2_count : MethodName := ⟨RX2, "count", "()I"⟩
def dkwX2_count_1 : List UInt8 := [58, 5, 27, 25, 5, 199, 0, 7, 3, 167, 0, 4, 4, 96, 60, 132, 4, 1, 167, 255, 228, 27, 172]
abbrev dktX2_count_1 : List UInt8 := dkwX2_count_1 ++ []
def dkwX2_count_0 : List UInt8 := [3, 60, 42, 180, 0, 20, 77, 44, 190, 62, 3, 54, 4, 21, 4, 29, 162, 0, 28, 44, 21, 4, 50]
abbrev dktX2_count_0 : List UInt8 := dkwX2_count_0 ++ dktX2_count_1
theorem dksX2_count_0 : cX2_count.data.toList.drop 0 = dktX2_count_0 := by decide +kernel
theorem dksX2_count_1 : cX2_count.data.toList.drop 23 = dktX2_count_1 := dk_seg dksX2_count_0 23 rfl rfl
theorem dX2_count_0 : decode cX2_count 0 = .ok (.iconst 0, 1) := dk_3 (dk_at dksX2_count_0 0 rfl rfl)
theorem dX2_count_1 : decode cX2_count 1 = .ok (.istore_n 1, 1) := dk_60 (dk_at dksX2_count_0 1 rfl rfl)
theorem dX2_count_2 : decode cX2_count 2 = .ok (.aload_n 0, 1) := dk_42 (dk_at dksX2_count_0 2 rfl rfl)
theorem dX2_count_3 : decode cX2_count 3 = .ok (.getfield 20, 3) := dk_180 0 20 (dk_at dksX2_count_0 3 rfl rfl)
theorem dX2_count_6 : decode cX2_count 6 = .ok (.astore_n 2, 1) := dk_77 (dk_at dksX2_count_0 6 rfl rfl)
theorem dX2_count_7 : decode cX2_count 7 = .ok (.aload_n 2, 1) := dk_44 (dk_at dksX2_count_0 7 rfl rfl)
theorem dX2_count_8 : decode cX2_count 8 = .ok (.arraylength, 1) := dk_190 (dk_at dksX2_count_0 8 rfl rfl)
theorem dX2_count_9 : decode cX2_count 9 = .ok (.istore_n 3, 1) := dk_62 (dk_at dksX2_count_0 9 rfl rfl)
theorem dX2_count_10 : decode cX2_count 10 = .ok (.iconst 0, 1) := dk_3 (dk_at dksX2_count_0 10 rfl rfl)
theorem dX2_count_11 : decode cX2_count 11 = .ok (.istore 4, 2) := dk_54 4 (dk_at dksX2_count_0 11 rfl rfl)
theorem dX2_count_13 : decode cX2_count 13 = .ok (.iload 4, 2) := dk_21 4 (dk_at dksX2_count_0 13 rfl rfl)
theorem dX2_count_15 : decode cX2_count 15 = .ok (.iload_n 3, 1) := dk_29 (dk_at dksX2_count_0 15 rfl rfl)
theorem dX2_count_16 : decode cX2_count 16 = .ok (.if_icmp .ge 28, 3) := dk_162 0 28 (dk_at dksX2_count_0 16 rfl rfl)
theorem dX2_count_19 : decode cX2_count 19 = .ok (.aload_n 2, 1) := dk_44 (dk_at dksX2_count_0 19 rfl rfl)
theorem dX2_count_20 : decode cX2_count 20 = .ok (.iload 4, 2) := dk_21 4 (dk_at dksX2_count_0 20 rfl rfl)
theorem dX2_count_22 : decode cX2_count 22 = .ok (.aaload, 1) := dk_50 (dk_at dksX2_count_0 22 rfl rfl)
theorem dX2_count_23 : decode cX2_count 23 = .ok (.astore 5, 2) := dk_58 5 (dk_at dksX2_count_1 0 rfl rfl)
theorem dX2_count_25 : decode cX2_count 25 = .ok (.iload_n 1, 1) := dk_27 (dk_at dksX2_count_1 2 rfl rfl)
theorem dX2_count_26 : decode cX2_count 26 = .ok (.aload 5, 2) := dk_25 5 (dk_at dksX2_count_1 3 rfl rfl)
theorem dX2_count_28 : decode cX2_count 28 = .ok (.ifnonnull 7, 3) := dk_199 0 7 (dk_at dksX2_count_1 5 rfl rfl)
theorem dX2_count_31 : decode cX2_count 31 = .ok (.iconst 0, 1) := dk_3 (dk_at dksX2_count_1 8 rfl rfl)
theorem dX2_count_32 : decode cX2_count 32 = .ok (.goto 4, 3) := dk_167 0 4 (dk_at dksX2_count_1 9 rfl rfl)
theorem dX2_count_35 : decode cX2_count 35 = .ok (.iconst 1, 1) := dk_4 (dk_at dksX2_count_1 12 rfl rfl)
theorem dX2_count_36 : decode cX2_count 36 = .ok (.iadd, 1) := dk_96 (dk_at dksX2_count_1 13 rfl rfl)
theorem dX2_count_37 : decode cX2_count 37 = .ok (.istore_n 1, 1) := dk_60 (dk_at dksX2_count_1 14 rfl rfl)
theorem dX2_count_38 : decode cX2_count 38 = .ok (.iinc 4 1, 3) := dk_132 4 1 (dk_at dksX2_count_1 15 rfl rfl)
theorem dX2_count_41 : decode cX2_count 41 = .ok (.goto (-28), 3) := dk_167 255 228 (dk_at dksX2_count_1 18 rfl rfl)
theorem dX2_count_44 : decode cX2_count 44 = .ok (.iload_n 1, 1) := dk_27 (dk_at dksX2_count_1 21 rfl rfl)
theorem dX2_count_45 : decode cX2_count 45 = .ok (.ireturn, 1) := dk_172 (dk_at dksX2_count_1 22 rfl rfl)
abbrev cX2_characters : ByteArray := prog_6_method_20_code
def yX2_characters : MethodName := ⟨RX2, "characters", "()I"⟩
def dkwX2_characters_1 : List UInt8 := [185, 0, 45, 1, 0, 192, 0, 49, 78, 27, 45, 182, 0, 221, 96, 60, 167, 255, 230, 27, 172]
abbrev dktX2_characters_1 : List UInt8 := dkwX2_characters_1 ++ []
def dkwX2_characters_0 : List UInt8 := [3, 60, 42, 180, 0, 12, 182, 0, 35, 77, 44, 185, 0, 39, 1, 0, 153, 0, 23, 44]
abbrev dktX2_characters_0 : List UInt8 := dkwX2_characters_0 ++ dktX2_characters_1
theorem dksX2_characters_0 : cX2_characters.data.toList.drop 0 = dktX2_characters_0 := by decide +kernel
theorem dksX2_characters_1 : cX2_characters.data.toList.drop 20 = dktX2_characters_1 := dk_seg dksX2_characters_0 20 rfl rfl
theorem dX2_characters_0 : decode cX2_characters 0 = .ok (.iconst 0, 1) := dk_3 (dk_at dksX2_characters_0 0 rfl rfl)
theorem dX2_characters_1 : decode cX2_characters 1 = .ok (.istore_n 1, 1) := dk_60 (dk_at dksX2_characters_0 1 rfl rfl)
theorem dX2_characters_2 : decode cX2_characters 2 = .ok (.aload_n 0, 1) := dk_42 (dk_at dksX2_characters_0 2 rfl rfl)
theorem dX2_characters_3 : decode cX2_characters 3 = .ok (.getfield 12, 3) := dk_180 0 12 (dk_at dksX2_characters_0 3 rfl rfl)
theorem dX2_characters_6 : decode cX2_characters 6 = .ok (.invokevirtual 35, 3) := dk_182 0 35 (dk_at dksX2_characters_0 6 rfl rfl)
theorem dX2_characters_9 : decode cX2_characters 9 = .ok (.astore_n 2, 1) := dk_77 (dk_at dksX2_characters_0 9 rfl rfl)
theorem dX2_characters_10 : decode cX2_characters 10 = .ok (.aload_n 2, 1) := dk_44 (dk_at dksX2_characters_0 10 rfl rfl)
theorem dX2_characters_11 : decode cX2_characters 11 = .ok (.invokeinterface 39 1, 5) := by decide +kernel
theorem dX2_characters_16 : decode cX2_characters 16 = .ok (.ifCond .eq 23, 3) := dk_153 0 23 (dk_at dksX2_characters_0 16 rfl rfl)
theorem dX2_characters_19 : decode cX2_characters 19 = .ok (.aload_n 2, 1) := dk_44 (dk_at dksX2_characters_0 19 rfl rfl)
theorem dX2_characters_20 : decode cX2_characters 20 = .ok (.invokeinterface 45 1, 5) := by decide +kernel
theorem dX2_characters_25 : decode cX2_characters 25 = .ok (.checkcast 49, 3) := dk_192 0 49 (dk_at dksX2_characters_1 5 rfl rfl)
theorem dX2_characters_28 : decode cX2_characters 28 = .ok (.astore_n 3, 1) := dk_78 (dk_at dksX2_characters_1 8 rfl rfl)
theorem dX2_characters_29 : decode cX2_characters 29 = .ok (.iload_n 1, 1) := dk_27 (dk_at dksX2_characters_1 9 rfl rfl)
theorem dX2_characters_30 : decode cX2_characters 30 = .ok (.aload_n 3, 1) := dk_45 (dk_at dksX2_characters_1 10 rfl rfl)
theorem dX2_characters_31 : decode cX2_characters 31 = .ok (.invokevirtual 221, 3) := dk_182 0 221 (dk_at dksX2_characters_1 11 rfl rfl)
theorem dX2_characters_34 : decode cX2_characters 34 = .ok (.iadd, 1) := dk_96 (dk_at dksX2_characters_1 14 rfl rfl)
theorem dX2_characters_35 : decode cX2_characters 35 = .ok (.istore_n 1, 1) := dk_60 (dk_at dksX2_characters_1 15 rfl rfl)
theorem dX2_characters_36 : decode cX2_characters 36 = .ok (.goto (-26), 3) := dk_167 255 230 (dk_at dksX2_characters_1 16 rfl rfl)
theorem dX2_characters_39 : decode cX2_characters 39 = .ok (.iload_n 1, 1) := dk_27 (dk_at dksX2_characters_1 19 rfl rfl)
theorem dX2_characters_40 : decode cX2_characters 40 = .ok (.ireturn, 1) := dk_172 (dk_at dksX2_characters_1 20 rfl rfl)
abbrev cX2_cost : ByteArray := prog_6_method_14_code
def yX2_cost : MethodName := ⟨RX2, "cost", "()I"⟩
def dkwX2_cost_2 : List UInt8 := [182, 0, 185, 96, 60, 132, 4, 1, 167, 255, 223, 27, 172]
abbrev dktX2_cost_2 : List UInt8 := dkwX2_cost_2 ++ []
def dkwX2_cost_1 : List UInt8 := [162, 0, 33, 44, 21, 4, 50, 58, 5, 27, 25, 5, 199, 0, 7, 3, 167, 0, 9, 42, 25, 5]
abbrev dktX2_cost_1 : List UInt8 := dkwX2_cost_1 ++ dktX2_cost_2
def dkwX2_cost_0 : List UInt8 := [42, 180, 0, 12, 182, 0, 84, 60, 42, 180, 0, 20, 77, 44, 190, 62, 3, 54, 4, 21, 4, 29]
abbrev dktX2_cost_0 : List UInt8 := dkwX2_cost_0 ++ dktX2_cost_1
theorem dksX2_cost_0 : cX2_cost.data.toList.drop 0 = dktX2_cost_0 := by decide +kernel
theorem dksX2_cost_1 : cX2_cost.data.toList.drop 22 = dktX2_cost_1 := dk_seg dksX2_cost_0 22 rfl rfl
theorem dksX2_cost_2 : cX2_cost.data.toList.drop 44 = dktX2_cost_2 := dk_seg dksX2_cost_1 22 rfl rfl
theorem dX2_cost_0 : decode cX2_cost 0 = .ok (.aload_n 0, 1) := dk_42 (dk_at dksX2_cost_0 0 rfl rfl)
theorem dX2_cost_1 : decode cX2_cost 1 = .ok (.getfield 12, 3) := dk_180 0 12 (dk_at dksX2_cost_0 1 rfl rfl)
theorem dX2_cost_4 : decode cX2_cost 4 = .ok (.invokevirtual 84, 3) := dk_182 0 84 (dk_at dksX2_cost_0 4 rfl rfl)
theorem dX2_cost_7 : decode cX2_cost 7 = .ok (.istore_n 1, 1) := dk_60 (dk_at dksX2_cost_0 7 rfl rfl)
theorem dX2_cost_8 : decode cX2_cost 8 = .ok (.aload_n 0, 1) := dk_42 (dk_at dksX2_cost_0 8 rfl rfl)
theorem dX2_cost_9 : decode cX2_cost 9 = .ok (.getfield 20, 3) := dk_180 0 20 (dk_at dksX2_cost_0 9 rfl rfl)
theorem dX2_cost_12 : decode cX2_cost 12 = .ok (.astore_n 2, 1) := dk_77 (dk_at dksX2_cost_0 12 rfl rfl)
theorem dX2_cost_13 : decode cX2_cost 13 = .ok (.aload_n 2, 1) := dk_44 (dk_at dksX2_cost_0 13 rfl rfl)
theorem dX2_cost_14 : decode cX2_cost 14 = .ok (.arraylength, 1) := dk_190 (dk_at dksX2_cost_0 14 rfl rfl)
theorem dX2_cost_15 : decode cX2_cost 15 = .ok (.istore_n 3, 1) := dk_62 (dk_at dksX2_cost_0 15 rfl rfl)
theorem dX2_cost_16 : decode cX2_cost 16 = .ok (.iconst 0, 1) := dk_3 (dk_at dksX2_cost_0 16 rfl rfl)
theorem dX2_cost_17 : decode cX2_cost 17 = .ok (.istore 4, 2) := dk_54 4 (dk_at dksX2_cost_0 17 rfl rfl)
theorem dX2_cost_19 : decode cX2_cost 19 = .ok (.iload 4, 2) := dk_21 4 (dk_at dksX2_cost_0 19 rfl rfl)
theorem dX2_cost_21 : decode cX2_cost 21 = .ok (.iload_n 3, 1) := dk_29 (dk_at dksX2_cost_0 21 rfl rfl)
theorem dX2_cost_22 : decode cX2_cost 22 = .ok (.if_icmp .ge 33, 3) := dk_162 0 33 (dk_at dksX2_cost_1 0 rfl rfl)
theorem dX2_cost_25 : decode cX2_cost 25 = .ok (.aload_n 2, 1) := dk_44 (dk_at dksX2_cost_1 3 rfl rfl)
theorem dX2_cost_26 : decode cX2_cost 26 = .ok (.iload 4, 2) := dk_21 4 (dk_at dksX2_cost_1 4 rfl rfl)
theorem dX2_cost_28 : decode cX2_cost 28 = .ok (.aaload, 1) := dk_50 (dk_at dksX2_cost_1 6 rfl rfl)
theorem dX2_cost_29 : decode cX2_cost 29 = .ok (.astore 5, 2) := dk_58 5 (dk_at dksX2_cost_1 7 rfl rfl)
theorem dX2_cost_31 : decode cX2_cost 31 = .ok (.iload_n 1, 1) := dk_27 (dk_at dksX2_cost_1 9 rfl rfl)
theorem dX2_cost_32 : decode cX2_cost 32 = .ok (.aload 5, 2) := dk_25 5 (dk_at dksX2_cost_1 10 rfl rfl)
theorem dX2_cost_34 : decode cX2_cost 34 = .ok (.ifnonnull 7, 3) := dk_199 0 7 (dk_at dksX2_cost_1 12 rfl rfl)
theorem dX2_cost_37 : decode cX2_cost 37 = .ok (.iconst 0, 1) := dk_3 (dk_at dksX2_cost_1 15 rfl rfl)
theorem dX2_cost_38 : decode cX2_cost 38 = .ok (.goto 9, 3) := dk_167 0 9 (dk_at dksX2_cost_1 16 rfl rfl)
theorem dX2_cost_41 : decode cX2_cost 41 = .ok (.aload_n 0, 1) := dk_42 (dk_at dksX2_cost_1 19 rfl rfl)
theorem dX2_cost_42 : decode cX2_cost 42 = .ok (.aload 5, 2) := dk_25 5 (dk_at dksX2_cost_1 20 rfl rfl)
theorem dX2_cost_44 : decode cX2_cost 44 = .ok (.invokevirtual 185, 3) := dk_182 0 185 (dk_at dksX2_cost_2 0 rfl rfl)
theorem dX2_cost_47 : decode cX2_cost 47 = .ok (.iadd, 1) := dk_96 (dk_at dksX2_cost_2 3 rfl rfl)
theorem dX2_cost_48 : decode cX2_cost 48 = .ok (.istore_n 1, 1) := dk_60 (dk_at dksX2_cost_2 4 rfl rfl)
theorem dX2_cost_49 : decode cX2_cost 49 = .ok (.iinc 4 1, 3) := dk_132 4 1 (dk_at dksX2_cost_2 5 rfl rfl)
theorem dX2_cost_52 : decode cX2_cost 52 = .ok (.goto (-33), 3) := dk_167 255 223 (dk_at dksX2_cost_2 8 rfl rfl)
theorem dX2_cost_55 : decode cX2_cost 55 = .ok (.iload_n 1, 1) := dk_27 (dk_at dksX2_cost_2 11 rfl rfl)
theorem dX2_cost_56 : decode cX2_cost 56 = .ok (.ireturn, 1) := dk_172 (dk_at dksX2_cost_2 12 rfl rfl)
abbrev cX2_cut : ByteArray := prog_6_method_12_code
def yX2_cut : MethodName := ⟨RX2, "cut", "(I)I"⟩
def dkwX2_cut_4 : List UInt8 := [167, 0, 5, 25, 4, 83, 132, 3, 1, 167, 255, 203, 28, 172]
abbrev dktX2_cut_4 : List UInt8 := dkwX2_cut_4 ++ []
def dkwX2_cut_3 : List UInt8 := [182, 0, 161, 58, 4, 42, 180, 0, 20, 29, 25, 4, 180, 0, 148, 182, 0, 165, 153, 0, 7, 1]
abbrev dktX2_cut_3 : List UInt8 := dkwX2_cut_3 ++ dktX2_cut_4
def dkwX2_cut_2 : List UInt8 := [29, 16, 12, 162, 0, 53, 42, 180, 0, 20, 29, 50, 198, 0, 38, 42, 180, 0, 20, 29, 50, 27]
abbrev dktX2_cut_2 : List UInt8 := dkwX2_cut_2 ++ dktX2_cut_3
def dkwX2_cut_1 : List UInt8 := [180, 0, 12, 42, 180, 0, 12, 182, 0, 84, 4, 100, 182, 0, 158, 192, 0, 49, 78, 167, 255, 225, 3, 62]
abbrev dktX2_cut_1 : List UInt8 := dkwX2_cut_1 ++ dktX2_cut_2
def dkwX2_cut_0 : List UInt8 := [42, 180, 0, 12, 182, 0, 84, 27, 100, 61, 42, 180, 0, 12, 182, 0, 84, 27, 164, 0, 26, 42]
abbrev dktX2_cut_0 : List UInt8 := dkwX2_cut_0 ++ dktX2_cut_1
theorem dksX2_cut_0 : cX2_cut.data.toList.drop 0 = dktX2_cut_0 := by decide +kernel
theorem dksX2_cut_1 : cX2_cut.data.toList.drop 22 = dktX2_cut_1 := dk_seg dksX2_cut_0 22 rfl rfl
theorem dksX2_cut_2 : cX2_cut.data.toList.drop 46 = dktX2_cut_2 := dk_seg dksX2_cut_1 24 rfl rfl
theorem dksX2_cut_3 : cX2_cut.data.toList.drop 68 = dktX2_cut_3 := dk_seg dksX2_cut_2 22 rfl rfl
theorem dksX2_cut_4 : cX2_cut.data.toList.drop 90 = dktX2_cut_4 := dk_seg dksX2_cut_3 22 rfl rfl
theorem dX2_cut_0 : decode cX2_cut 0 = .ok (.aload_n 0, 1) := dk_42 (dk_at dksX2_cut_0 0 rfl rfl)
theorem dX2_cut_1 : decode cX2_cut 1 = .ok (.getfield 12, 3) := dk_180 0 12 (dk_at dksX2_cut_0 1 rfl rfl)
theorem dX2_cut_4 : decode cX2_cut 4 = .ok (.invokevirtual 84, 3) := dk_182 0 84 (dk_at dksX2_cut_0 4 rfl rfl)
theorem dX2_cut_7 : decode cX2_cut 7 = .ok (.iload_n 1, 1) := dk_27 (dk_at dksX2_cut_0 7 rfl rfl)
theorem dX2_cut_8 : decode cX2_cut 8 = .ok (.isub, 1) := dk_100 (dk_at dksX2_cut_0 8 rfl rfl)
theorem dX2_cut_9 : decode cX2_cut 9 = .ok (.istore_n 2, 1) := dk_61 (dk_at dksX2_cut_0 9 rfl rfl)
theorem dX2_cut_10 : decode cX2_cut 10 = .ok (.aload_n 0, 1) := dk_42 (dk_at dksX2_cut_0 10 rfl rfl)
theorem dX2_cut_11 : decode cX2_cut 11 = .ok (.getfield 12, 3) := dk_180 0 12 (dk_at dksX2_cut_0 11 rfl rfl)
theorem dX2_cut_14 : decode cX2_cut 14 = .ok (.invokevirtual 84, 3) := dk_182 0 84 (dk_at dksX2_cut_0 14 rfl rfl)
theorem dX2_cut_17 : decode cX2_cut 17 = .ok (.iload_n 1, 1) := dk_27 (dk_at dksX2_cut_0 17 rfl rfl)
theorem dX2_cut_18 : decode cX2_cut 18 = .ok (.if_icmp .le 26, 3) := dk_164 0 26 (dk_at dksX2_cut_0 18 rfl rfl)
theorem dX2_cut_21 : decode cX2_cut 21 = .ok (.aload_n 0, 1) := dk_42 (dk_at dksX2_cut_0 21 rfl rfl)
theorem dX2_cut_22 : decode cX2_cut 22 = .ok (.getfield 12, 3) := dk_180 0 12 (dk_at dksX2_cut_1 0 rfl rfl)
theorem dX2_cut_25 : decode cX2_cut 25 = .ok (.aload_n 0, 1) := dk_42 (dk_at dksX2_cut_1 3 rfl rfl)
theorem dX2_cut_26 : decode cX2_cut 26 = .ok (.getfield 12, 3) := dk_180 0 12 (dk_at dksX2_cut_1 4 rfl rfl)
theorem dX2_cut_29 : decode cX2_cut 29 = .ok (.invokevirtual 84, 3) := dk_182 0 84 (dk_at dksX2_cut_1 7 rfl rfl)
theorem dX2_cut_32 : decode cX2_cut 32 = .ok (.iconst 1, 1) := dk_4 (dk_at dksX2_cut_1 10 rfl rfl)
theorem dX2_cut_33 : decode cX2_cut 33 = .ok (.isub, 1) := dk_100 (dk_at dksX2_cut_1 11 rfl rfl)
theorem dX2_cut_34 : decode cX2_cut 34 = .ok (.invokevirtual 158, 3) := dk_182 0 158 (dk_at dksX2_cut_1 12 rfl rfl)
theorem dX2_cut_37 : decode cX2_cut 37 = .ok (.checkcast 49, 3) := dk_192 0 49 (dk_at dksX2_cut_1 15 rfl rfl)
theorem dX2_cut_40 : decode cX2_cut 40 = .ok (.astore_n 3, 1) := dk_78 (dk_at dksX2_cut_1 18 rfl rfl)
theorem dX2_cut_41 : decode cX2_cut 41 = .ok (.goto (-31), 3) := dk_167 255 225 (dk_at dksX2_cut_1 19 rfl rfl)
theorem dX2_cut_44 : decode cX2_cut 44 = .ok (.iconst 0, 1) := dk_3 (dk_at dksX2_cut_1 22 rfl rfl)
theorem dX2_cut_45 : decode cX2_cut 45 = .ok (.istore_n 3, 1) := dk_62 (dk_at dksX2_cut_1 23 rfl rfl)
theorem dX2_cut_46 : decode cX2_cut 46 = .ok (.iload_n 3, 1) := dk_29 (dk_at dksX2_cut_2 0 rfl rfl)
theorem dX2_cut_47 : decode cX2_cut 47 = .ok (.bipush 12, 2) := dk_16 12 (dk_at dksX2_cut_2 1 rfl rfl)
theorem dX2_cut_49 : decode cX2_cut 49 = .ok (.if_icmp .ge 53, 3) := dk_162 0 53 (dk_at dksX2_cut_2 3 rfl rfl)
theorem dX2_cut_52 : decode cX2_cut 52 = .ok (.aload_n 0, 1) := dk_42 (dk_at dksX2_cut_2 6 rfl rfl)
theorem dX2_cut_53 : decode cX2_cut 53 = .ok (.getfield 20, 3) := dk_180 0 20 (dk_at dksX2_cut_2 7 rfl rfl)
theorem dX2_cut_56 : decode cX2_cut 56 = .ok (.iload_n 3, 1) := dk_29 (dk_at dksX2_cut_2 10 rfl rfl)
theorem dX2_cut_57 : decode cX2_cut 57 = .ok (.aaload, 1) := dk_50 (dk_at dksX2_cut_2 11 rfl rfl)
theorem dX2_cut_58 : decode cX2_cut 58 = .ok (.ifnull 38, 3) := dk_198 0 38 (dk_at dksX2_cut_2 12 rfl rfl)
theorem dX2_cut_61 : decode cX2_cut 61 = .ok (.aload_n 0, 1) := dk_42 (dk_at dksX2_cut_2 15 rfl rfl)
theorem dX2_cut_62 : decode cX2_cut 62 = .ok (.getfield 20, 3) := dk_180 0 20 (dk_at dksX2_cut_2 16 rfl rfl)
theorem dX2_cut_65 : decode cX2_cut 65 = .ok (.iload_n 3, 1) := dk_29 (dk_at dksX2_cut_2 19 rfl rfl)
theorem dX2_cut_66 : decode cX2_cut 66 = .ok (.aaload, 1) := dk_50 (dk_at dksX2_cut_2 20 rfl rfl)
theorem dX2_cut_67 : decode cX2_cut 67 = .ok (.iload_n 1, 1) := dk_27 (dk_at dksX2_cut_2 21 rfl rfl)
theorem dX2_cut_68 : decode cX2_cut 68 = .ok (.invokevirtual 161, 3) := dk_182 0 161 (dk_at dksX2_cut_3 0 rfl rfl)
theorem dX2_cut_71 : decode cX2_cut 71 = .ok (.astore 4, 2) := dk_58 4 (dk_at dksX2_cut_3 3 rfl rfl)
theorem dX2_cut_73 : decode cX2_cut 73 = .ok (.aload_n 0, 1) := dk_42 (dk_at dksX2_cut_3 5 rfl rfl)
theorem dX2_cut_74 : decode cX2_cut 74 = .ok (.getfield 20, 3) := dk_180 0 20 (dk_at dksX2_cut_3 6 rfl rfl)
theorem dX2_cut_77 : decode cX2_cut 77 = .ok (.iload_n 3, 1) := dk_29 (dk_at dksX2_cut_3 9 rfl rfl)
theorem dX2_cut_78 : decode cX2_cut 78 = .ok (.aload 4, 2) := dk_25 4 (dk_at dksX2_cut_3 10 rfl rfl)
theorem dX2_cut_80 : decode cX2_cut 80 = .ok (.getfield 148, 3) := dk_180 0 148 (dk_at dksX2_cut_3 12 rfl rfl)
theorem dX2_cut_83 : decode cX2_cut 83 = .ok (.invokevirtual 165, 3) := dk_182 0 165 (dk_at dksX2_cut_3 15 rfl rfl)
theorem dX2_cut_86 : decode cX2_cut 86 = .ok (.ifCond .eq 7, 3) := dk_153 0 7 (dk_at dksX2_cut_3 18 rfl rfl)
theorem dX2_cut_89 : decode cX2_cut 89 = .ok (.aconst_null, 1) := dk_1 (dk_at dksX2_cut_3 21 rfl rfl)
theorem dX2_cut_90 : decode cX2_cut 90 = .ok (.goto 5, 3) := dk_167 0 5 (dk_at dksX2_cut_4 0 rfl rfl)
theorem dX2_cut_93 : decode cX2_cut 93 = .ok (.aload 4, 2) := dk_25 4 (dk_at dksX2_cut_4 3 rfl rfl)
theorem dX2_cut_95 : decode cX2_cut 95 = .ok (.aastore, 1) := dk_83 (dk_at dksX2_cut_4 5 rfl rfl)
theorem dX2_cut_96 : decode cX2_cut 96 = .ok (.iinc 3 1, 3) := dk_132 3 1 (dk_at dksX2_cut_4 6 rfl rfl)
theorem dX2_cut_99 : decode cX2_cut 99 = .ok (.goto (-53), 3) := dk_167 255 203 (dk_at dksX2_cut_4 9 rfl rfl)
theorem dX2_cut_102 : decode cX2_cut 102 = .ok (.iload_n 2, 1) := dk_28 (dk_at dksX2_cut_4 12 rfl rfl)
theorem dX2_cut_103 : decode cX2_cut 103 = .ok (.ireturn, 1) := dk_172 (dk_at dksX2_cut_4 13 rfl rfl)
abbrev cX2_split : ByteArray := prog_6_method_11_code
def yX2_split : MethodName := ⟨RX2, "split", "(II)I"⟩
def dkwX2_split_7 : List UInt8 := [6, 27, 25, 5, 183, 0, 103, 191]
abbrev dktX2_split_7 : List UInt8 := dkwX2_split_7 ++ []
def dkwX2_split_6 : List UInt8 := [42, 180, 0, 20, 27, 42, 180, 0, 12, 25, 7, 184, 0, 112, 83, 21, 5, 172, 58, 5, 187, 0, 61, 89]
abbrev dktX2_split_6 : List UInt8 := dkwX2_split_6 ++ dktX2_split_7
def dkwX2_split_5 : List UInt8 := [54, 9, 132, 8, 1, 167, 255, 192, 42, 180, 0, 20, 21, 5, 42, 180, 0, 12, 25, 6, 184, 0, 112, 83]
abbrev dktX2_split_5 : List UInt8 := dkwX2_split_5 ++ dktX2_split_6
def dkwX2_split_4 : List UInt8 := [182, 0, 51, 167, 0, 20, 25, 7, 45, 180, 0, 148, 21, 8, 182, 0, 154, 192, 0, 107, 182, 0, 51]
abbrev dktX2_split_4 : List UInt8 := dkwX2_split_4 ++ dktX2_split_5
def dkwX2_split_3 : List UInt8 := [25, 4, 21, 8, 182, 0, 151, 154, 0, 23, 25, 6, 45, 180, 0, 148, 21, 8, 182, 0, 154, 192, 0, 107]
abbrev dktX2_split_3 : List UInt8 := dkwX2_split_3 ++ dktX2_split_4
def dkwX2_split_2 : List UInt8 := [187, 0, 9, 89, 183, 0, 11, 58, 7, 3, 54, 8, 21, 8, 45, 180, 0, 148, 182, 0, 84, 162, 0, 58]
abbrev dktX2_split_2 : List UInt8 := dkwX2_split_2 ++ dktX2_split_3
def dkwX2_split_1 : List UInt8 := [58, 4, 25, 4, 28, 184, 0, 144, 42, 182, 0, 100, 54, 5, 187, 0, 9, 89, 183, 0, 11, 58, 6]
abbrev dktX2_split_1 : List UInt8 := dkwX2_split_1 ++ dktX2_split_2
def dkwX2_split_0 : List UInt8 := [42, 180, 0, 20, 27, 50, 78, 187, 0, 28, 89, 42, 180, 0, 12, 45, 45, 28, 182, 0, 137, 183, 0, 141]
abbrev dktX2_split_0 : List UInt8 := dkwX2_split_0 ++ dktX2_split_1
theorem dksX2_split_0 : cX2_split.data.toList.drop 0 = dktX2_split_0 := by decide +kernel
theorem dksX2_split_1 : cX2_split.data.toList.drop 24 = dktX2_split_1 := dk_seg dksX2_split_0 24 rfl rfl
theorem dksX2_split_2 : cX2_split.data.toList.drop 47 = dktX2_split_2 := dk_seg dksX2_split_1 23 rfl rfl
theorem dksX2_split_3 : cX2_split.data.toList.drop 71 = dktX2_split_3 := dk_seg dksX2_split_2 24 rfl rfl
theorem dksX2_split_4 : cX2_split.data.toList.drop 95 = dktX2_split_4 := dk_seg dksX2_split_3 24 rfl rfl
theorem dksX2_split_5 : cX2_split.data.toList.drop 118 = dktX2_split_5 := dk_seg dksX2_split_4 23 rfl rfl
theorem dksX2_split_6 : cX2_split.data.toList.drop 142 = dktX2_split_6 := dk_seg dksX2_split_5 24 rfl rfl
theorem dksX2_split_7 : cX2_split.data.toList.drop 166 = dktX2_split_7 := dk_seg dksX2_split_6 24 rfl rfl
theorem dX2_split_0 : decode cX2_split 0 = .ok (.aload_n 0, 1) := dk_42 (dk_at dksX2_split_0 0 rfl rfl)
theorem dX2_split_1 : decode cX2_split 1 = .ok (.getfield 20, 3) := dk_180 0 20 (dk_at dksX2_split_0 1 rfl rfl)
theorem dX2_split_4 : decode cX2_split 4 = .ok (.iload_n 1, 1) := dk_27 (dk_at dksX2_split_0 4 rfl rfl)
theorem dX2_split_5 : decode cX2_split 5 = .ok (.aaload, 1) := dk_50 (dk_at dksX2_split_0 5 rfl rfl)
theorem dX2_split_6 : decode cX2_split 6 = .ok (.astore_n 3, 1) := dk_78 (dk_at dksX2_split_0 6 rfl rfl)
theorem dX2_split_7 : decode cX2_split 7 = .ok (.new 28, 3) := dk_187 0 28 (dk_at dksX2_split_0 7 rfl rfl)
theorem dX2_split_10 : decode cX2_split 10 = .ok (.dup, 1) := dk_89 (dk_at dksX2_split_0 10 rfl rfl)
theorem dX2_split_11 : decode cX2_split 11 = .ok (.aload_n 0, 1) := dk_42 (dk_at dksX2_split_0 11 rfl rfl)
theorem dX2_split_12 : decode cX2_split 12 = .ok (.getfield 12, 3) := dk_180 0 12 (dk_at dksX2_split_0 12 rfl rfl)
theorem dX2_split_15 : decode cX2_split 15 = .ok (.aload_n 3, 1) := dk_45 (dk_at dksX2_split_0 15 rfl rfl)
theorem dX2_split_16 : decode cX2_split 16 = .ok (.aload_n 3, 1) := dk_45 (dk_at dksX2_split_0 16 rfl rfl)
theorem dX2_split_17 : decode cX2_split 17 = .ok (.iload_n 2, 1) := dk_28 (dk_at dksX2_split_0 17 rfl rfl)
theorem dX2_split_18 : decode cX2_split 18 = .ok (.invokevirtual 137, 3) := dk_182 0 137 (dk_at dksX2_split_0 18 rfl rfl)
theorem dX2_split_21 : decode cX2_split 21 = .ok (.invokespecial 141, 3) := dk_183 0 141 (dk_at dksX2_split_0 21 rfl rfl)
theorem dX2_split_24 : decode cX2_split 24 = .ok (.astore 4, 2) := dk_58 4 (dk_at dksX2_split_1 0 rfl rfl)
theorem dX2_split_26 : decode cX2_split 26 = .ok (.aload 4, 2) := dk_25 4 (dk_at dksX2_split_1 2 rfl rfl)
theorem dX2_split_28 : decode cX2_split 28 = .ok (.iload_n 2, 1) := dk_28 (dk_at dksX2_split_1 4 rfl rfl)
theorem dX2_split_29 : decode cX2_split 29 = .ok (.invokestatic 144, 3) := dk_184 0 144 (dk_at dksX2_split_1 5 rfl rfl)
theorem dX2_split_32 : decode cX2_split 32 = .ok (.aload_n 0, 1) := dk_42 (dk_at dksX2_split_1 8 rfl rfl)
theorem dX2_split_33 : decode cX2_split 33 = .ok (.invokevirtual 100, 3) := dk_182 0 100 (dk_at dksX2_split_1 9 rfl rfl)
theorem dX2_split_36 : decode cX2_split 36 = .ok (.istore 5, 2) := dk_54 5 (dk_at dksX2_split_1 12 rfl rfl)
theorem dX2_split_38 : decode cX2_split 38 = .ok (.new 9, 3) := dk_187 0 9 (dk_at dksX2_split_1 14 rfl rfl)
theorem dX2_split_41 : decode cX2_split 41 = .ok (.dup, 1) := dk_89 (dk_at dksX2_split_1 17 rfl rfl)
theorem dX2_split_42 : decode cX2_split 42 = .ok (.invokespecial 11, 3) := dk_183 0 11 (dk_at dksX2_split_1 18 rfl rfl)
theorem dX2_split_45 : decode cX2_split 45 = .ok (.astore 6, 2) := dk_58 6 (dk_at dksX2_split_1 21 rfl rfl)
theorem dX2_split_47 : decode cX2_split 47 = .ok (.new 9, 3) := dk_187 0 9 (dk_at dksX2_split_2 0 rfl rfl)
theorem dX2_split_50 : decode cX2_split 50 = .ok (.dup, 1) := dk_89 (dk_at dksX2_split_2 3 rfl rfl)
theorem dX2_split_51 : decode cX2_split 51 = .ok (.invokespecial 11, 3) := dk_183 0 11 (dk_at dksX2_split_2 4 rfl rfl)
theorem dX2_split_54 : decode cX2_split 54 = .ok (.astore 7, 2) := dk_58 7 (dk_at dksX2_split_2 7 rfl rfl)
theorem dX2_split_56 : decode cX2_split 56 = .ok (.iconst 0, 1) := dk_3 (dk_at dksX2_split_2 9 rfl rfl)
theorem dX2_split_57 : decode cX2_split 57 = .ok (.istore 8, 2) := dk_54 8 (dk_at dksX2_split_2 10 rfl rfl)
theorem dX2_split_59 : decode cX2_split 59 = .ok (.iload 8, 2) := dk_21 8 (dk_at dksX2_split_2 12 rfl rfl)
theorem dX2_split_61 : decode cX2_split 61 = .ok (.aload_n 3, 1) := dk_45 (dk_at dksX2_split_2 14 rfl rfl)
theorem dX2_split_62 : decode cX2_split 62 = .ok (.getfield 148, 3) := dk_180 0 148 (dk_at dksX2_split_2 15 rfl rfl)
theorem dX2_split_65 : decode cX2_split 65 = .ok (.invokevirtual 84, 3) := dk_182 0 84 (dk_at dksX2_split_2 18 rfl rfl)
theorem dX2_split_68 : decode cX2_split 68 = .ok (.if_icmp .ge 58, 3) := dk_162 0 58 (dk_at dksX2_split_2 21 rfl rfl)
theorem dX2_split_71 : decode cX2_split 71 = .ok (.aload 4, 2) := dk_25 4 (dk_at dksX2_split_3 0 rfl rfl)
theorem dX2_split_73 : decode cX2_split 73 = .ok (.iload 8, 2) := dk_21 8 (dk_at dksX2_split_3 2 rfl rfl)
theorem dX2_split_75 : decode cX2_split 75 = .ok (.invokevirtual 151, 3) := dk_182 0 151 (dk_at dksX2_split_3 4 rfl rfl)
theorem dX2_split_78 : decode cX2_split 78 = .ok (.ifCond .ne 23, 3) := dk_154 0 23 (dk_at dksX2_split_3 7 rfl rfl)
theorem dX2_split_81 : decode cX2_split 81 = .ok (.aload 6, 2) := dk_25 6 (dk_at dksX2_split_3 10 rfl rfl)
theorem dX2_split_83 : decode cX2_split 83 = .ok (.aload_n 3, 1) := dk_45 (dk_at dksX2_split_3 12 rfl rfl)
theorem dX2_split_84 : decode cX2_split 84 = .ok (.getfield 148, 3) := dk_180 0 148 (dk_at dksX2_split_3 13 rfl rfl)
theorem dX2_split_87 : decode cX2_split 87 = .ok (.iload 8, 2) := dk_21 8 (dk_at dksX2_split_3 16 rfl rfl)
theorem dX2_split_89 : decode cX2_split 89 = .ok (.invokevirtual 154, 3) := dk_182 0 154 (dk_at dksX2_split_3 18 rfl rfl)
theorem dX2_split_92 : decode cX2_split 92 = .ok (.checkcast 107, 3) := dk_192 0 107 (dk_at dksX2_split_3 21 rfl rfl)
theorem dX2_split_95 : decode cX2_split 95 = .ok (.invokevirtual 51, 3) := dk_182 0 51 (dk_at dksX2_split_4 0 rfl rfl)
theorem dX2_split_98 : decode cX2_split 98 = .ok (.goto 20, 3) := dk_167 0 20 (dk_at dksX2_split_4 3 rfl rfl)
theorem dX2_split_101 : decode cX2_split 101 = .ok (.aload 7, 2) := dk_25 7 (dk_at dksX2_split_4 6 rfl rfl)
theorem dX2_split_103 : decode cX2_split 103 = .ok (.aload_n 3, 1) := dk_45 (dk_at dksX2_split_4 8 rfl rfl)
theorem dX2_split_104 : decode cX2_split 104 = .ok (.getfield 148, 3) := dk_180 0 148 (dk_at dksX2_split_4 9 rfl rfl)
theorem dX2_split_107 : decode cX2_split 107 = .ok (.iload 8, 2) := dk_21 8 (dk_at dksX2_split_4 12 rfl rfl)
theorem dX2_split_109 : decode cX2_split 109 = .ok (.invokevirtual 154, 3) := dk_182 0 154 (dk_at dksX2_split_4 14 rfl rfl)
theorem dX2_split_112 : decode cX2_split 112 = .ok (.checkcast 107, 3) := dk_192 0 107 (dk_at dksX2_split_4 17 rfl rfl)
theorem dX2_split_115 : decode cX2_split 115 = .ok (.invokevirtual 51, 3) := dk_182 0 51 (dk_at dksX2_split_4 20 rfl rfl)
theorem dX2_split_118 : decode cX2_split 118 = .ok (.istore 9, 2) := dk_54 9 (dk_at dksX2_split_5 0 rfl rfl)
theorem dX2_split_120 : decode cX2_split 120 = .ok (.iinc 8 1, 3) := dk_132 8 1 (dk_at dksX2_split_5 2 rfl rfl)
theorem dX2_split_123 : decode cX2_split 123 = .ok (.goto (-64), 3) := dk_167 255 192 (dk_at dksX2_split_5 5 rfl rfl)
theorem dX2_split_126 : decode cX2_split 126 = .ok (.aload_n 0, 1) := dk_42 (dk_at dksX2_split_5 8 rfl rfl)
theorem dX2_split_127 : decode cX2_split 127 = .ok (.getfield 20, 3) := dk_180 0 20 (dk_at dksX2_split_5 9 rfl rfl)
theorem dX2_split_130 : decode cX2_split 130 = .ok (.iload 5, 2) := dk_21 5 (dk_at dksX2_split_5 12 rfl rfl)
theorem dX2_split_132 : decode cX2_split 132 = .ok (.aload_n 0, 1) := dk_42 (dk_at dksX2_split_5 14 rfl rfl)
theorem dX2_split_133 : decode cX2_split 133 = .ok (.getfield 12, 3) := dk_180 0 12 (dk_at dksX2_split_5 15 rfl rfl)
theorem dX2_split_136 : decode cX2_split 136 = .ok (.aload 6, 2) := dk_25 6 (dk_at dksX2_split_5 18 rfl rfl)
theorem dX2_split_138 : decode cX2_split 138 = .ok (.invokestatic 112, 3) := dk_184 0 112 (dk_at dksX2_split_5 20 rfl rfl)
theorem dX2_split_141 : decode cX2_split 141 = .ok (.aastore, 1) := dk_83 (dk_at dksX2_split_5 23 rfl rfl)
theorem dX2_split_142 : decode cX2_split 142 = .ok (.aload_n 0, 1) := dk_42 (dk_at dksX2_split_6 0 rfl rfl)
theorem dX2_split_143 : decode cX2_split 143 = .ok (.getfield 20, 3) := dk_180 0 20 (dk_at dksX2_split_6 1 rfl rfl)
theorem dX2_split_146 : decode cX2_split 146 = .ok (.iload_n 1, 1) := dk_27 (dk_at dksX2_split_6 4 rfl rfl)
theorem dX2_split_147 : decode cX2_split 147 = .ok (.aload_n 0, 1) := dk_42 (dk_at dksX2_split_6 5 rfl rfl)
theorem dX2_split_148 : decode cX2_split 148 = .ok (.getfield 12, 3) := dk_180 0 12 (dk_at dksX2_split_6 6 rfl rfl)
theorem dX2_split_151 : decode cX2_split 151 = .ok (.aload 7, 2) := dk_25 7 (dk_at dksX2_split_6 9 rfl rfl)
theorem dX2_split_153 : decode cX2_split 153 = .ok (.invokestatic 112, 3) := dk_184 0 112 (dk_at dksX2_split_6 11 rfl rfl)
theorem dX2_split_156 : decode cX2_split 156 = .ok (.aastore, 1) := dk_83 (dk_at dksX2_split_6 14 rfl rfl)
theorem dX2_split_157 : decode cX2_split 157 = .ok (.iload 5, 2) := dk_21 5 (dk_at dksX2_split_6 15 rfl rfl)
theorem dX2_split_159 : decode cX2_split 159 = .ok (.ireturn, 1) := dk_172 (dk_at dksX2_split_6 17 rfl rfl)
theorem dX2_split_160 : decode cX2_split 160 = .ok (.astore 5, 2) := dk_58 5 (dk_at dksX2_split_6 18 rfl rfl)
theorem dX2_split_162 : decode cX2_split 162 = .ok (.new 61, 3) := dk_187 0 61 (dk_at dksX2_split_6 20 rfl rfl)
theorem dX2_split_165 : decode cX2_split 165 = .ok (.dup, 1) := dk_89 (dk_at dksX2_split_6 23 rfl rfl)
theorem dX2_split_166 : decode cX2_split 166 = .ok (.iconst 3, 1) := dk_6 (dk_at dksX2_split_7 0 rfl rfl)
theorem dX2_split_167 : decode cX2_split 167 = .ok (.iload_n 1, 1) := dk_27 (dk_at dksX2_split_7 1 rfl rfl)
theorem dX2_split_168 : decode cX2_split 168 = .ok (.aload 5, 2) := dk_25 5 (dk_at dksX2_split_7 2 rfl rfl)
theorem dX2_split_170 : decode cX2_split 170 = .ok (.invokespecial 103, 3) := dk_183 0 103 (dk_at dksX2_split_7 4 rfl rfl)
theorem dX2_split_173 : decode cX2_split 173 = .ok (.athrow, 1) := dk_191 (dk_at dksX2_split_7 7 rfl rfl)
abbrev cX2_checkDifferent : ByteArray := prog_6_method_10_code
def yX2_checkDifferent : MethodName := ⟨RX2, "checkDifferent", "(LLogCompactor$Column;I)V"⟩
def dkwX2_checkDifferent_0 : List UInt8 := [42, 182, 0, 134, 5, 162, 0, 14, 187, 0, 61, 89, 16, 13, 27, 183, 0, 63, 191, 177]
abbrev dktX2_checkDifferent_0 : List UInt8 := dkwX2_checkDifferent_0 ++ []
theorem dksX2_checkDifferent_0 : cX2_checkDifferent.data.toList.drop 0 = dktX2_checkDifferent_0 := by decide +kernel
theorem dX2_checkDifferent_0 : decode cX2_checkDifferent 0 = .ok (.aload_n 0, 1) := dk_42 (dk_at dksX2_checkDifferent_0 0 rfl rfl)
theorem dX2_checkDifferent_1 : decode cX2_checkDifferent 1 = .ok (.invokevirtual 134, 3) := dk_182 0 134 (dk_at dksX2_checkDifferent_0 1 rfl rfl)
theorem dX2_checkDifferent_4 : decode cX2_checkDifferent 4 = .ok (.iconst 2, 1) := dk_5 (dk_at dksX2_checkDifferent_0 4 rfl rfl)
theorem dX2_checkDifferent_5 : decode cX2_checkDifferent 5 = .ok (.if_icmp .ge 14, 3) := dk_162 0 14 (dk_at dksX2_checkDifferent_0 5 rfl rfl)
theorem dX2_checkDifferent_8 : decode cX2_checkDifferent 8 = .ok (.new 61, 3) := dk_187 0 61 (dk_at dksX2_checkDifferent_0 8 rfl rfl)
theorem dX2_checkDifferent_11 : decode cX2_checkDifferent 11 = .ok (.dup, 1) := dk_89 (dk_at dksX2_checkDifferent_0 11 rfl rfl)
theorem dX2_checkDifferent_12 : decode cX2_checkDifferent 12 = .ok (.bipush 13, 2) := dk_16 13 (dk_at dksX2_checkDifferent_0 12 rfl rfl)
theorem dX2_checkDifferent_14 : decode cX2_checkDifferent 14 = .ok (.iload_n 1, 1) := dk_27 (dk_at dksX2_checkDifferent_0 14 rfl rfl)
theorem dX2_checkDifferent_15 : decode cX2_checkDifferent 15 = .ok (.invokespecial 63, 3) := dk_183 0 63 (dk_at dksX2_checkDifferent_0 15 rfl rfl)
theorem dX2_checkDifferent_18 : decode cX2_checkDifferent 18 = .ok (.athrow, 1) := dk_191 (dk_at dksX2_checkDifferent_0 18 rfl rfl)
theorem dX2_checkDifferent_19 : decode cX2_checkDifferent 19 = .ok (.return_, 1) := dk_177 (dk_at dksX2_checkDifferent_0 19 rfl rfl)
theorem q98 : (Jvm.Cond.initialized "LogCompactor$Log") ∈ lw_all := lw_g (lw_at lw_m1 2 rfl) rfl
theorem q150 : (Jvm.Cond.instantiable "LogCompactor$Log" (4 : Nat)) ∈ lw_all := lw_g (lw_at lw_m1 54 rfl) rfl
theorem q152 : (Jvm.Cond.instanceMethod ({ cls := "LogCompactor$Log", name := "<init>", desc := "()V" } : Jvm.MethodName)) ∈ lw_all := lw_g (lw_at lw_m1 56 rfl) rfl
theorem q153 : (Jvm.Cond.code ({ cls := "LogCompactor$Log", name := "<init>", desc := "()V" } : Jvm.MethodName) prog_6_method_1_code (1 : Nat) (Option.none : Option Jvm.ClassFile.FieldType)) ∈ lw_all := lw_g (lw_at lw_m1 57 rfl) rfl
theorem q154 : (Jvm.Cond.methodLink "LogCompactor$Log" (3 : Nat) ({ cls := "java/lang/Object", name := "<init>", desc := "()V" } : Jvm.MethodName)) ∈ lw_all := lw_g (lw_at lw_m1 58 rfl) rfl
theorem q155 : (Jvm.Cond.classLink "LogCompactor$Log" (9 : Nat) "java/util/ArrayList") ∈ lw_all := lw_g (lw_at lw_m1 59 rfl) rfl
theorem q157 : (Jvm.Cond.methodLink "LogCompactor$Log" (11 : Nat) ({ cls := "java/util/ArrayList", name := "<init>", desc := "()V" } : Jvm.MethodName)) ∈ lw_all := lw_g (lw_at lw_m1 61 rfl) rfl
theorem q184 : (Jvm.Cond.classLink "LogCompactor$Log" (18 : Nat) "LogCompactor$Template") ∈ lw_all := lw_g (lw_at lw_m1 88 rfl) rfl
theorem q186 : (Jvm.Cond.classLink "LogCompactor$Log" (28 : Nat) "LogCompactor$Column") ∈ lw_all := lw_g (lw_at lw_m1 90 rfl) rfl
theorem q188 : (Jvm.Cond.methodLink "LogCompactor$Log" (30 : Nat) ({ cls := "LogCompactor$Column", name := "<init>", desc := "()V" } : Jvm.MethodName)) ∈ lw_all := lw_g (lw_at lw_m1 92 rfl) rfl
theorem q203 : (Jvm.Cond.fieldLink "LogCompactor$Log" (12 : Nat) "LogCompactor$Log" "lines" "Ljava/util/ArrayList;") ∈ lw_all := lw_g (lw_at lw_m1 107 rfl) rfl
theorem q207 : (Jvm.Cond.fieldLink "LogCompactor$Log" (20 : Nat) "LogCompactor$Log" "templates" "[LLogCompactor$Template;") ∈ lw_all := lw_g (lw_at lw_m1 111 rfl) rfl
theorem q210 : (Jvm.Cond.fieldLink "LogCompactor$Log" (24 : Nat) "LogCompactor$Log" "threshold" "I") ∈ lw_all := lw_g (lw_at lw_m1 114 rfl) rfl
theorem q212 : (Jvm.Cond.fieldLink "LogCompactor$Log" (31 : Nat) "LogCompactor$Log" "column" "LLogCompactor$Column;") ∈ lw_all := lw_g (lw_at lw_m1 116 rfl) rfl
theorem q213 : (Jvm.Cond.laysFinal "LogCompactor$Log" "LogCompactor$Log" "lines" "Ljava/util/ArrayList;") ∈ lw_all := lw_g (lw_at lw_m1 117 rfl) rfl
theorem q214 : (Jvm.Cond.soleField "LogCompactor$Log" "lines") ∈ lw_all := lw_g (lw_at lw_m1 118 rfl) rfl
theorem q215 : (Jvm.Cond.laysFinal "LogCompactor$Log" "LogCompactor$Log" "templates" "[LLogCompactor$Template;") ∈ lw_all := lw_g (lw_at lw_m1 119 rfl) rfl
theorem q216 : (Jvm.Cond.soleField "LogCompactor$Log" "templates") ∈ lw_all := lw_g (lw_at lw_m1 120 rfl) rfl
theorem q217 : (Jvm.Cond.lays "LogCompactor$Log" "LogCompactor$Log" "threshold" "I") ∈ lw_all := lw_g (lw_at lw_m1 121 rfl) rfl
theorem q218 : (Jvm.Cond.soleField "LogCompactor$Log" "threshold") ∈ lw_all := lw_g (lw_at lw_m1 122 rfl) rfl
theorem q219 : (Jvm.Cond.laysFinal "LogCompactor$Log" "LogCompactor$Log" "column" "LLogCompactor$Column;") ∈ lw_all := lw_g (lw_at lw_m1 123 rfl) rfl
theorem q220 : (Jvm.Cond.soleField "LogCompactor$Log" "column") ∈ lw_all := lw_g (lw_at lw_m1 124 rfl) rfl
theorem q221 : (Jvm.Cond.superclass "LogCompactor$Log" "java/lang/Object") ∈ lw_all := lw_g (lw_at lw_m1 125 rfl) rfl
theorem q259 : (Jvm.Cond.instanceMethod ({ cls := "LogCompactor$Log", name := "<init>", desc := "(LLogCompactor$Log;)V" } : Jvm.MethodName)) ∈ lw_all := lw_g (lw_at lw_m1 163 rfl) rfl
theorem q260 : (Jvm.Cond.code ({ cls := "LogCompactor$Log", name := "<init>", desc := "(LLogCompactor$Log;)V" } : Jvm.MethodName) prog_6_method_2_code (5 : Nat) (Option.none : Option Jvm.ClassFile.FieldType)) ∈ lw_all := lw_g (lw_at lw_m1 164 rfl) rfl
theorem q261 : (Jvm.Cond.methodLink "LogCompactor$Log" (35 : Nat) ({ cls := "java/util/ArrayList", name := "iterator", desc := "()Ljava/util/Iterator;" } : Jvm.MethodName)) ∈ lw_all := lw_g (lw_at lw_m1 165 rfl) rfl
theorem q284 : (Jvm.Cond.interfaceEntry "LogCompactor$Log" (39 : Nat)) ∈ lw_tbl := lw_at lw_m1 188 rfl
theorem q285 : (Jvm.Cond.methodLink "LogCompactor$Log" (39 : Nat) ({ cls := "java/util/Iterator", name := "hasNext", desc := "()Z" } : Jvm.MethodName)) ∈ lw_all := lw_g (lw_at lw_m1 189 rfl) rfl
theorem q294 : (Jvm.Cond.interfaceEntry "LogCompactor$Log" (45 : Nat)) ∈ lw_tbl := lw_at lw_m1 198 rfl
theorem q295 : (Jvm.Cond.methodLink "LogCompactor$Log" (45 : Nat) ({ cls := "java/util/Iterator", name := "next", desc := "()Ljava/lang/Object;" } : Jvm.MethodName)) ∈ lw_all := lw_g (lw_at lw_m1 199 rfl) rfl
theorem q377 : (Jvm.Cond.classLink "LogCompactor$Log" (49 : Nat) "LogCompactor$Line") ∈ lw_all := lw_g (lw_at lw_m2 41 rfl) rfl
theorem q378 : (Jvm.Cond.methodLink "LogCompactor$Log" (51 : Nat) ({ cls := "java/util/ArrayList", name := "add", desc := "(Ljava/lang/Object;)Z" } : Jvm.MethodName)) ∈ lw_all := lw_g (lw_at lw_m2 42 rfl) rfl
theorem q414 : (Jvm.Cond.selects "LogCompactor$Log" ({ cls := "java/lang/Object", name := "getClass", desc := "()Ljava/lang/Class;" } : Jvm.MethodName) ({ cls := "java/lang/Object", name := "getClass", desc := "()Ljava/lang/Class;" } : Jvm.MethodName)) ∈ lw_all := lw_g (lw_at lw_m2 78 rfl) rfl
theorem q452 : (Jvm.Cond.methodLink "LogCompactor$Log" (55 : Nat) ({ cls := "java/lang/System", name := "arraycopy", desc := "(Ljava/lang/Object;ILjava/lang/Object;II)V" } : Jvm.MethodName)) ∈ lw_all := lw_g (lw_at lw_m2 116 rfl) rfl
theorem q454 : (Jvm.Cond.instanceMethod ({ cls := "LogCompactor$Log", name := "compactOnce", desc := "()Z" } : Jvm.MethodName)) ∈ lw_all := lw_g (lw_at lw_m2 118 rfl) rfl
theorem q455 : (Jvm.Cond.selects "LogCompactor$Log" ({ cls := "LogCompactor$Log", name := "compactOnce", desc := "()Z" } : Jvm.MethodName) ({ cls := "LogCompactor$Log", name := "compactOnce", desc := "()Z" } : Jvm.MethodName)) ∈ lw_all := lw_g (lw_at lw_m2 119 rfl) rfl
theorem q456 : (Jvm.Cond.code ({ cls := "LogCompactor$Log", name := "compactOnce", desc := "()Z" } : Jvm.MethodName) prog_6_method_18_code (7 : Nat) (Option.some Jvm.ClassFile.FieldType.boolean)) ∈ lw_all := lw_g (lw_at lw_m2 120 rfl) rfl
theorem q457 : (Jvm.Cond.methodLink "LogCompactor$Log" (212 : Nat) ({ cls := "LogCompactor$Log", name := "gainOrNothing", desc := "(II)I" } : Jvm.MethodName)) ∈ lw_all := lw_g (lw_at lw_m2 121 rfl) rfl
theorem q458 : (Jvm.Cond.privateMethod ({ cls := "LogCompactor$Log", name := "gainOrNothing", desc := "(II)I" } : Jvm.MethodName)) ∈ lw_tbl := lw_at lw_m2 122 rfl
theorem q459 : (Jvm.Cond.instanceMethod ({ cls := "LogCompactor$Log", name := "gainOrNothing", desc := "(II)I" } : Jvm.MethodName)) ∈ lw_all := lw_g (lw_at lw_m2 123 rfl) rfl
theorem q460 : (Jvm.Cond.codeWith ({ cls := "LogCompactor$Log", name := "gainOrNothing", desc := "(II)I" } : Jvm.MethodName) prog_6_method_17_code (5 : Nat) (Option.some Jvm.ClassFile.FieldType.int) [((45 : Nat), (59 : Nat), (60 : Nat), (61 : Nat))]) ∈ lw_all := lw_g (lw_at lw_m2 124 rfl) rfl
theorem q461 : (Jvm.Cond.classLink "LogCompactor$Log" (61 : Nat) "LogCompactor$RefusedException") ∈ lw_all := lw_g (lw_at lw_m2 125 rfl) rfl
theorem q462 : (Jvm.Cond.methodLink "LogCompactor$Log" (73 : Nat) ({ cls := "LogCompactor$Template", name := "isForm", desc := "(Ljava/util/ArrayList;)Z" } : Jvm.MethodName)) ∈ lw_all := lw_g (lw_at lw_m2 126 rfl) rfl
theorem q489 : (Jvm.Cond.methodLink "LogCompactor$Log" (209 : Nat) ({ cls := "LogCompactor$Log", name := "gain", desc := "(II)I" } : Jvm.MethodName)) ∈ lw_all := lw_g (lw_at lw_m2 153 rfl) rfl
theorem q490 : (Jvm.Cond.instanceMethod ({ cls := "LogCompactor$Log", name := "gain", desc := "(II)I" } : Jvm.MethodName)) ∈ lw_all := lw_g (lw_at lw_m2 154 rfl) rfl
theorem q491 : (Jvm.Cond.selects "LogCompactor$Log" ({ cls := "LogCompactor$Log", name := "gain", desc := "(II)I" } : Jvm.MethodName) ({ cls := "LogCompactor$Log", name := "gain", desc := "(II)I" } : Jvm.MethodName)) ∈ lw_all := lw_g (lw_at lw_m2 155 rfl) rfl
theorem q492 : (Jvm.Cond.code ({ cls := "LogCompactor$Log", name := "gain", desc := "(II)I" } : Jvm.MethodName) prog_6_method_15_code (5 : Nat) (Option.some Jvm.ClassFile.FieldType.int)) ∈ lw_all := lw_g (lw_at lw_m2 156 rfl) rfl
theorem q493 : (Jvm.Cond.methodLink "LogCompactor$Log" (121 : Nat) ({ cls := "java/lang/Math", name := "min", desc := "(II)I" } : Jvm.MethodName)) ∈ lw_all := lw_g (lw_at lw_m2 157 rfl) rfl
theorem q494 : (Jvm.Cond.methodLink "LogCompactor$Log" (127 : Nat) ({ cls := "java/lang/Math", name := "max", desc := "(II)I" } : Jvm.MethodName)) ∈ lw_all := lw_g (lw_at lw_m2 158 rfl) rfl
theorem q503 : (Jvm.Cond.methodLink "LogCompactor$Log" (63 : Nat) ({ cls := "LogCompactor$RefusedException", name := "<init>", desc := "(II)V" } : Jvm.MethodName)) ∈ lw_all := lw_g (lw_at lw_m2 167 rfl) rfl
theorem q520 : (Jvm.Cond.methodLink "LogCompactor$Log" (185 : Nat) ({ cls := "LogCompactor$Log", name := "costOf", desc := "(LLogCompactor$Template;)I" } : Jvm.MethodName)) ∈ lw_all := lw_g (lw_at lw_m2 184 rfl) rfl
theorem q521 : (Jvm.Cond.instanceMethod ({ cls := "LogCompactor$Log", name := "costOf", desc := "(LLogCompactor$Template;)I" } : Jvm.MethodName)) ∈ lw_all := lw_g (lw_at lw_m2 185 rfl) rfl
theorem q522 : (Jvm.Cond.selects "LogCompactor$Log" ({ cls := "LogCompactor$Log", name := "costOf", desc := "(LLogCompactor$Template;)I" } : Jvm.MethodName) ({ cls := "LogCompactor$Log", name := "costOf", desc := "(LLogCompactor$Template;)I" } : Jvm.MethodName)) ∈ lw_all := lw_g (lw_at lw_m2 186 rfl) rfl
theorem q523 : (Jvm.Cond.code ({ cls := "LogCompactor$Log", name := "costOf", desc := "(LLogCompactor$Template;)I" } : Jvm.MethodName) prog_6_method_13_code (4 : Nat) (Option.some Jvm.ClassFile.FieldType.int)) ∈ lw_all := lw_g (lw_at lw_m2 187 rfl) rfl
theorem q524 : (Jvm.Cond.methodLink "LogCompactor$Log" (168 : Nat) ({ cls := "LogCompactor$Template", name := "cost", desc := "()I" } : Jvm.MethodName)) ∈ lw_all := lw_g (lw_at lw_m2 188 rfl) rfl
theorem q547 : (Jvm.Cond.methodLink "LogCompactor$Log" (84 : Nat) ({ cls := "java/util/ArrayList", name := "size", desc := "()I" } : Jvm.MethodName)) ∈ lw_all := lw_g (lw_at lw_m2 211 rfl) rfl
theorem q548 : (Jvm.Cond.methodLink "LogCompactor$Log" (154 : Nat) ({ cls := "java/util/ArrayList", name := "get", desc := "(I)Ljava/lang/Object;" } : Jvm.MethodName)) ∈ lw_all := lw_g (lw_at lw_m2 212 rfl) rfl
theorem q549 : (Jvm.Cond.classLink "LogCompactor$Log" (174 : Nat) "LogCompactor$Slot") ∈ lw_all := lw_g (lw_at lw_m2 213 rfl) rfl
theorem q550 : (Jvm.Cond.methodLink "LogCompactor$Log" (176 : Nat) ({ cls := "LogCompactor$Slot", name := "isVariable", desc := "()Z" } : Jvm.MethodName)) ∈ lw_all := lw_g (lw_at lw_m2 214 rfl) rfl
theorem q554 : (Jvm.Cond.methodLink "LogCompactor$Log" (179 : Nat) ({ cls := "LogCompactor$Column", name := "fill", desc := "(Ljava/util/ArrayList;LLogCompactor$Template;I)V" } : Jvm.MethodName)) ∈ lw_all := lw_g (lw_at lw_m2 218 rfl) rfl
theorem q563 : (Jvm.Cond.methodLink "LogCompactor$Log" (182 : Nat) ({ cls := "LogCompactor$Column", name := "leastCost", desc := "()I" } : Jvm.MethodName)) ∈ lw_all := lw_g (lw_at lw_m2 227 rfl) rfl
theorem q652 : (Jvm.Cond.methodLink "LogCompactor$Log" (189 : Nat) ({ cls := "LogCompactor$Log", name := "costOfBoth", desc := "(LLogCompactor$Template;LLogCompactor$Template;)I" } : Jvm.MethodName)) ∈ lw_all := lw_g (lw_at lw_m3 76 rfl) rfl
theorem q653 : (Jvm.Cond.privateMethod ({ cls := "LogCompactor$Log", name := "costOfBoth", desc := "(LLogCompactor$Template;LLogCompactor$Template;)I" } : Jvm.MethodName)) ∈ lw_tbl := lw_at lw_m3 77 rfl
theorem q654 : (Jvm.Cond.instanceMethod ({ cls := "LogCompactor$Log", name := "costOfBoth", desc := "(LLogCompactor$Template;LLogCompactor$Template;)I" } : Jvm.MethodName)) ∈ lw_all := lw_g (lw_at lw_m3 78 rfl) rfl
theorem q655 : (Jvm.Cond.code ({ cls := "LogCompactor$Log", name := "costOfBoth", desc := "(LLogCompactor$Template;LLogCompactor$Template;)I" } : Jvm.MethodName) prog_6_method_16_code (7 : Nat) (Option.some Jvm.ClassFile.FieldType.int)) ∈ lw_all := lw_g (lw_at lw_m3 79 rfl) rfl
theorem q656 : (Jvm.Cond.methodLink "LogCompactor$Log" (193 : Nat) ({ cls := "LogCompactor$Template", name := "gapSum", desc := "()I" } : Jvm.MethodName)) ∈ lw_all := lw_g (lw_at lw_m3 80 rfl) rfl
theorem q657 : (Jvm.Cond.methodLink "LogCompactor$Log" (200 : Nat) ({ cls := "LogCompactor$Slot", name := "isFixed", desc := "(LLogCompactor$Token;)Z" } : Jvm.MethodName)) ∈ lw_all := lw_g (lw_at lw_m3 81 rfl) rfl
theorem q662 : (Jvm.Cond.methodLink "LogCompactor$Log" (204 : Nat) ({ cls := "LogCompactor$Slot", name := "cost", desc := "()I" } : Jvm.MethodName)) ∈ lw_all := lw_g (lw_at lw_m3 86 rfl) rfl
theorem q663 : (Jvm.Cond.methodLink "LogCompactor$Log" (205 : Nat) ({ cls := "LogCompactor$Column", name := "fillBoth", desc := "(Ljava/util/ArrayList;LLogCompactor$Template;LLogCompactor$Template;I)V" } : Jvm.MethodName)) ∈ lw_all := lw_g (lw_at lw_m3 87 rfl) rfl
theorem q667 : (Jvm.Cond.methodLink "LogCompactor$Log" (215 : Nat) ({ cls := "LogCompactor$Log", name := "merge", desc := "(II)I" } : Jvm.MethodName)) ∈ lw_all := lw_g (lw_at lw_m3 91 rfl) rfl
theorem q668 : (Jvm.Cond.instanceMethod ({ cls := "LogCompactor$Log", name := "merge", desc := "(II)I" } : Jvm.MethodName)) ∈ lw_all := lw_g (lw_at lw_m3 92 rfl) rfl
theorem q669 : (Jvm.Cond.selects "LogCompactor$Log" ({ cls := "LogCompactor$Log", name := "merge", desc := "(II)I" } : Jvm.MethodName) ({ cls := "LogCompactor$Log", name := "merge", desc := "(II)I" } : Jvm.MethodName)) ∈ lw_all := lw_g (lw_at lw_m3 93 rfl) rfl
theorem q670 : (Jvm.Cond.codeWith ({ cls := "LogCompactor$Log", name := "merge", desc := "(II)I" } : Jvm.MethodName) prog_6_method_9_code (6 : Nat) (Option.some Jvm.ClassFile.FieldType.int) [((13 : Nat), (45 : Nat), (46 : Nat), (61 : Nat))]) ∈ lw_all := lw_g (lw_at lw_m3 94 rfl) rfl
theorem q671 : (Jvm.Cond.methodLink "LogCompactor$Log" (130 : Nat) ({ cls := "LogCompactor$Log", name := "joined", desc := "(LLogCompactor$Template;LLogCompactor$Template;I)LLogCompactor$Template;" } : Jvm.MethodName)) ∈ lw_all := lw_g (lw_at lw_m3 95 rfl) rfl
theorem q672 : (Jvm.Cond.static ({ cls := "LogCompactor$Log", name := "joined", desc := "(LLogCompactor$Template;LLogCompactor$Template;I)LLogCompactor$Template;" } : Jvm.MethodName)) ∈ lw_all := lw_g (lw_at lw_m3 96 rfl) rfl
theorem q673 : (Jvm.Cond.code ({ cls := "LogCompactor$Log", name := "joined", desc := "(LLogCompactor$Template;LLogCompactor$Template;I)LLogCompactor$Template;" } : Jvm.MethodName) prog_6_method_8_code (3 : Nat) (Option.some (Jvm.ClassFile.FieldType.object "LogCompactor$Template"))) ∈ lw_all := lw_g (lw_at lw_m3 97 rfl) rfl
theorem q674 : (Jvm.Cond.methodLink "LogCompactor$Log" (117 : Nat) ({ cls := "LogCompactor$Template", name := "merged", desc := "(LLogCompactor$Template;)LLogCompactor$Template;" } : Jvm.MethodName)) ∈ lw_all := lw_g (lw_at lw_m3 98 rfl) rfl
theorem q687 : (Jvm.Cond.fieldLinkNest "LogCompactor$Log" (116 : Nat) "LogCompactor$Template" "gaps" "Ljava/util/ArrayList;" "LogCompactor") ∈ lw_tbl := lw_at lw_m3 111 rfl
theorem q690 : (Jvm.Cond.fieldLinkNest "LogCompactor$Log" (171 : Nat) "LogCompactor$Template" "slots" "Ljava/util/ArrayList;" "LogCompactor") ∈ lw_tbl := lw_at lw_m3 114 rfl
theorem q694 : (Jvm.Cond.fieldLinkNest "LogCompactor$Log" (148 : Nat) "LogCompactor$Template" "rows" "Ljava/util/ArrayList;" "LogCompactor") ∈ lw_tbl := lw_at lw_m3 118 rfl
theorem q714 : (Jvm.Cond.fieldLinkNest "LogCompactor$Log" (196 : Nat) "LogCompactor$Slot" "fixed" "LLogCompactor$Token;" "LogCompactor") ∈ lw_tbl := lw_at lw_m3 138 rfl
theorem q986 : (Jvm.Cond.methodLink "LogCompactor$Log" (103 : Nat) ({ cls := "LogCompactor$RefusedException", name := "<init>", desc := "(IILLogCompactor$RefusedException;)V" } : Jvm.MethodName)) ∈ lw_all := lw_g (lw_at lw_m4 170 rfl) rfl
theorem q1173 : (Jvm.Cond.instanceMethod ({ cls := "LogCompactor$Log", name := "templateOf", desc := "(I)I" } : Jvm.MethodName)) ∈ lw_all := lw_g (lw_at lw_m5 117 rfl) rfl
theorem q1174 : (Jvm.Cond.selects "LogCompactor$Log" ({ cls := "LogCompactor$Log", name := "templateOf", desc := "(I)I" } : Jvm.MethodName) ({ cls := "LogCompactor$Log", name := "templateOf", desc := "(I)I" } : Jvm.MethodName)) ∈ lw_all := lw_g (lw_at lw_m5 118 rfl) rfl
theorem q1175 : (Jvm.Cond.code ({ cls := "LogCompactor$Log", name := "templateOf", desc := "(I)I" } : Jvm.MethodName) prog_6_method_19_code (4 : Nat) (Option.some Jvm.ClassFile.FieldType.int)) ∈ lw_all := lw_g (lw_at lw_m5 119 rfl) rfl
theorem q1176 : (Jvm.Cond.methodLink "LogCompactor$Log" (106 : Nat) ({ cls := "java/lang/Integer", name := "valueOf", desc := "(I)Ljava/lang/Integer;" } : Jvm.MethodName)) ∈ lw_all := lw_g (lw_at lw_m5 120 rfl) rfl
theorem q1196 : (Jvm.Cond.methodLink "LogCompactor$Log" (218 : Nat) ({ cls := "java/util/ArrayList", name := "contains", desc := "(Ljava/lang/Object;)Z" } : Jvm.MethodName)) ∈ lw_all := lw_g (lw_at lw_m5 140 rfl) rfl
theorem q1216 : (Jvm.Cond.selects "LogCompactor$Log" ({ cls := "java/lang/Object", name := "equals", desc := "(Ljava/lang/Object;)Z" } : Jvm.MethodName) ({ cls := "java/lang/Object", name := "equals", desc := "(Ljava/lang/Object;)Z" } : Jvm.MethodName)) ∈ lw_all := lw_g (lw_at lw_m5 160 rfl) rfl
theorem q1401 : (Jvm.Cond.fieldLinkNest "LogCompactor$Log" (81 : Nat) "LogCompactor$Line" "tokens" "Ljava/util/ArrayList;" "LogCompactor") ∈ lw_tbl := lw_at lw_m6 105 rfl
theorem q1405 : (Jvm.Cond.fieldLinkNest "LogCompactor$Log" (70 : Nat) "LogCompactor$Line" "gaps" "Ljava/util/ArrayList;" "LogCompactor") ∈ lw_tbl := lw_at lw_m6 109 rfl
theorem q1414 : (Jvm.Cond.instanceMethod ({ cls := "LogCompactor$Log", name := "add", desc := "(LLogCompactor$Line;)I" } : Jvm.MethodName)) ∈ lw_all := lw_g (lw_at lw_m6 118 rfl) rfl
theorem q1415 : (Jvm.Cond.selects "LogCompactor$Log" ({ cls := "LogCompactor$Log", name := "add", desc := "(LLogCompactor$Line;)I" } : Jvm.MethodName) ({ cls := "LogCompactor$Log", name := "add", desc := "(LLogCompactor$Line;)I" } : Jvm.MethodName)) ∈ lw_all := lw_g (lw_at lw_m6 119 rfl) rfl
theorem q1416 : (Jvm.Cond.codeWith ({ cls := "LogCompactor$Log", name := "add", desc := "(LLogCompactor$Line;)I" } : Jvm.MethodName) prog_6_method_7_code (6 : Nat) (Option.some Jvm.ClassFile.FieldType.int) [((65 : Nat), (70 : Nat), (73 : Nat), (61 : Nat))]) ∈ lw_all := lw_g (lw_at lw_m6 120 rfl) rfl
theorem q1417 : (Jvm.Cond.methodLink "LogCompactor$Log" (92 : Nat) ({ cls := "LogCompactor$Log", name := "best", desc := "(LLogCompactor$Line;Z)I" } : Jvm.MethodName)) ∈ lw_all := lw_g (lw_at lw_m6 121 rfl) rfl
theorem q1418 : (Jvm.Cond.privateMethod ({ cls := "LogCompactor$Log", name := "best", desc := "(LLogCompactor$Line;Z)I" } : Jvm.MethodName)) ∈ lw_tbl := lw_at lw_m6 122 rfl
theorem q1419 : (Jvm.Cond.instanceMethod ({ cls := "LogCompactor$Log", name := "best", desc := "(LLogCompactor$Line;Z)I" } : Jvm.MethodName)) ∈ lw_all := lw_g (lw_at lw_m6 123 rfl) rfl
theorem q1420 : (Jvm.Cond.code ({ cls := "LogCompactor$Log", name := "best", desc := "(LLogCompactor$Line;Z)I" } : Jvm.MethodName) prog_6_method_6_code (5 : Nat) (Option.some Jvm.ClassFile.FieldType.int)) ∈ lw_all := lw_g (lw_at lw_m6 124 rfl) rfl
theorem q1421 : (Jvm.Cond.methodLink "LogCompactor$Log" (88 : Nat) ({ cls := "LogCompactor$Log", name := "canTake", desc := "(LLogCompactor$Template;LLogCompactor$Line;Z)Z" } : Jvm.MethodName)) ∈ lw_all := lw_g (lw_at lw_m6 125 rfl) rfl
theorem q1422 : (Jvm.Cond.privateMethod ({ cls := "LogCompactor$Log", name := "canTake", desc := "(LLogCompactor$Template;LLogCompactor$Line;Z)Z" } : Jvm.MethodName)) ∈ lw_tbl := lw_at lw_m6 126 rfl
theorem q1423 : (Jvm.Cond.instanceMethod ({ cls := "LogCompactor$Log", name := "canTake", desc := "(LLogCompactor$Template;LLogCompactor$Line;Z)Z" } : Jvm.MethodName)) ∈ lw_all := lw_g (lw_at lw_m6 127 rfl) rfl
theorem q1424 : (Jvm.Cond.code ({ cls := "LogCompactor$Log", name := "canTake", desc := "(LLogCompactor$Template;LLogCompactor$Line;Z)Z" } : Jvm.MethodName) prog_6_method_5_code (4 : Nat) (Option.some Jvm.ClassFile.FieldType.boolean)) ∈ lw_all := lw_g (lw_at lw_m6 128 rfl) rfl
theorem q1425 : (Jvm.Cond.methodLink "LogCompactor$Log" (66 : Nat) ({ cls := "LogCompactor$Template", name := "matches", desc := "(LLogCompactor$Line;)Z" } : Jvm.MethodName)) ∈ lw_all := lw_g (lw_at lw_m6 129 rfl) rfl
theorem q1435 : (Jvm.Cond.methodLink "LogCompactor$Log" (77 : Nat) ({ cls := "LogCompactor$Template", name := "fit", desc := "(LLogCompactor$Line;)I" } : Jvm.MethodName)) ∈ lw_all := lw_g (lw_at lw_m6 139 rfl) rfl
theorem q1440 : (Jvm.Cond.methodLink "LogCompactor$Log" (96 : Nat) ({ cls := "LogCompactor$Template", name := "with", desc := "(LLogCompactor$Line;I)LLogCompactor$Template;" } : Jvm.MethodName)) ∈ lw_all := lw_g (lw_at lw_m6 144 rfl) rfl
theorem q1448 : (Jvm.Cond.methodLink "LogCompactor$Log" (100 : Nat) ({ cls := "LogCompactor$Log", name := "free", desc := "()I" } : Jvm.MethodName)) ∈ lw_all := lw_g (lw_at lw_m6 152 rfl) rfl
theorem q1449 : (Jvm.Cond.privateMethod ({ cls := "LogCompactor$Log", name := "free", desc := "()I" } : Jvm.MethodName)) ∈ lw_tbl := lw_at lw_m6 153 rfl
theorem q1450 : (Jvm.Cond.instanceMethod ({ cls := "LogCompactor$Log", name := "free", desc := "()I" } : Jvm.MethodName)) ∈ lw_all := lw_g (lw_at lw_m6 154 rfl) rfl
theorem q1451 : (Jvm.Cond.code ({ cls := "LogCompactor$Log", name := "free", desc := "()I" } : Jvm.MethodName) prog_6_method_4_code (2 : Nat) (Option.some Jvm.ClassFile.FieldType.int)) ∈ lw_all := lw_g (lw_at lw_m6 155 rfl) rfl
theorem q1452 : (Jvm.Cond.methodLink "LogCompactor$Log" (112 : Nat) ({ cls := "LogCompactor$Template", name := "of", desc := "(Ljava/util/ArrayList;Ljava/util/ArrayList;)LLogCompactor$Template;" } : Jvm.MethodName)) ∈ lw_all := lw_g (lw_at lw_m6 156 rfl) rfl
theorem q1487 : (Jvm.Cond.instanceMethod ({ cls := "LogCompactor$Log", name := "count", desc := "()I" } : Jvm.MethodName)) ∈ lw_all := lw_g (lw_at lw_m6 191 rfl) rfl
theorem q1488 : (Jvm.Cond.selects "LogCompactor$Log" ({ cls := "LogCompactor$Log", name := "count", desc := "()I" } : Jvm.MethodName) ({ cls := "LogCompactor$Log", name := "count", desc := "()I" } : Jvm.MethodName)) ∈ lw_all := lw_g (lw_at lw_m6 192 rfl) rfl
theorem q1489 : (Jvm.Cond.code ({ cls := "LogCompactor$Log", name := "count", desc := "()I" } : Jvm.MethodName) prog_6_method_3_code (6 : Nat) (Option.some Jvm.ClassFile.FieldType.int)) ∈ lw_all := lw_g (lw_at lw_m6 193 rfl) rfl
theorem q1499 : (Jvm.Cond.instanceMethod ({ cls := "LogCompactor$Log", name := "characters", desc := "()I" } : Jvm.MethodName)) ∈ lw_all := lw_g (lw_at lw_m6 203 rfl) rfl
theorem q1500 : (Jvm.Cond.selects "LogCompactor$Log" ({ cls := "LogCompactor$Log", name := "characters", desc := "()I" } : Jvm.MethodName) ({ cls := "LogCompactor$Log", name := "characters", desc := "()I" } : Jvm.MethodName)) ∈ lw_all := lw_g (lw_at lw_m6 204 rfl) rfl
theorem q1501 : (Jvm.Cond.code ({ cls := "LogCompactor$Log", name := "characters", desc := "()I" } : Jvm.MethodName) prog_6_method_20_code (4 : Nat) (Option.some Jvm.ClassFile.FieldType.int)) ∈ lw_all := lw_g (lw_at lw_m6 205 rfl) rfl
theorem q1502 : (Jvm.Cond.methodLink "LogCompactor$Log" (221 : Nat) ({ cls := "LogCompactor$Line", name := "length", desc := "()I" } : Jvm.MethodName)) ∈ lw_all := lw_g (lw_at lw_m6 206 rfl) rfl
theorem q1507 : (Jvm.Cond.instanceMethod ({ cls := "LogCompactor$Log", name := "cost", desc := "()I" } : Jvm.MethodName)) ∈ lw_all := lw_g (lw_at lw_m6 211 rfl) rfl
theorem q1508 : (Jvm.Cond.selects "LogCompactor$Log" ({ cls := "LogCompactor$Log", name := "cost", desc := "()I" } : Jvm.MethodName) ({ cls := "LogCompactor$Log", name := "cost", desc := "()I" } : Jvm.MethodName)) ∈ lw_all := lw_g (lw_at lw_m6 212 rfl) rfl
theorem q1509 : (Jvm.Cond.code ({ cls := "LogCompactor$Log", name := "cost", desc := "()I" } : Jvm.MethodName) prog_6_method_14_code (6 : Nat) (Option.some Jvm.ClassFile.FieldType.int)) ∈ lw_all := lw_g (lw_at lw_m6 213 rfl) rfl
theorem q1599 : (Jvm.Cond.instanceMethod ({ cls := "LogCompactor$Log", name := "cut", desc := "(I)I" } : Jvm.MethodName)) ∈ lw_all := lw_g (lw_at lw_m7 63 rfl) rfl
theorem q1600 : (Jvm.Cond.selects "LogCompactor$Log" ({ cls := "LogCompactor$Log", name := "cut", desc := "(I)I" } : Jvm.MethodName) ({ cls := "LogCompactor$Log", name := "cut", desc := "(I)I" } : Jvm.MethodName)) ∈ lw_all := lw_g (lw_at lw_m7 64 rfl) rfl
theorem q1601 : (Jvm.Cond.code ({ cls := "LogCompactor$Log", name := "cut", desc := "(I)I" } : Jvm.MethodName) prog_6_method_12_code (5 : Nat) (Option.some Jvm.ClassFile.FieldType.int)) ∈ lw_all := lw_g (lw_at lw_m7 65 rfl) rfl
theorem q1602 : (Jvm.Cond.methodLink "LogCompactor$Log" (158 : Nat) ({ cls := "java/util/ArrayList", name := "remove", desc := "(I)Ljava/lang/Object;" } : Jvm.MethodName)) ∈ lw_all := lw_g (lw_at lw_m7 66 rfl) rfl
theorem q1603 : (Jvm.Cond.methodLink "LogCompactor$Log" (161 : Nat) ({ cls := "LogCompactor$Template", name := "before", desc := "(I)LLogCompactor$Template;" } : Jvm.MethodName)) ∈ lw_all := lw_g (lw_at lw_m7 67 rfl) rfl
theorem q1607 : (Jvm.Cond.methodLink "LogCompactor$Log" (165 : Nat) ({ cls := "java/util/ArrayList", name := "isEmpty", desc := "()Z" } : Jvm.MethodName)) ∈ lw_all := lw_g (lw_at lw_m7 71 rfl) rfl
theorem q1688 : (Jvm.Cond.instanceMethod ({ cls := "LogCompactor$Log", name := "split", desc := "(II)I" } : Jvm.MethodName)) ∈ lw_all := lw_g (lw_at lw_m7 152 rfl) rfl
theorem q1689 : (Jvm.Cond.selects "LogCompactor$Log" ({ cls := "LogCompactor$Log", name := "split", desc := "(II)I" } : Jvm.MethodName) ({ cls := "LogCompactor$Log", name := "split", desc := "(II)I" } : Jvm.MethodName)) ∈ lw_all := lw_g (lw_at lw_m7 153 rfl) rfl
theorem q1690 : (Jvm.Cond.codeWith ({ cls := "LogCompactor$Log", name := "split", desc := "(II)I" } : Jvm.MethodName) prog_6_method_11_code (10 : Nat) (Option.some Jvm.ClassFile.FieldType.int) [((26 : Nat), (159 : Nat), (160 : Nat), (61 : Nat))]) ∈ lw_all := lw_g (lw_at lw_m7 154 rfl) rfl
theorem q1691 : (Jvm.Cond.methodLink "LogCompactor$Log" (137 : Nat) ({ cls := "LogCompactor$Template", name := "tokenOf", desc := "(I)I" } : Jvm.MethodName)) ∈ lw_all := lw_g (lw_at lw_m7 155 rfl) rfl
theorem q1692 : (Jvm.Cond.methodLink "LogCompactor$Log" (141 : Nat) ({ cls := "LogCompactor$Column", name := "<init>", desc := "(Ljava/util/ArrayList;LLogCompactor$Template;I)V" } : Jvm.MethodName)) ∈ lw_all := lw_g (lw_at lw_m7 156 rfl) rfl
theorem q1693 : (Jvm.Cond.methodLink "LogCompactor$Log" (144 : Nat) ({ cls := "LogCompactor$Log", name := "checkDifferent", desc := "(LLogCompactor$Column;I)V" } : Jvm.MethodName)) ∈ lw_all := lw_g (lw_at lw_m7 157 rfl) rfl
theorem q1694 : (Jvm.Cond.static ({ cls := "LogCompactor$Log", name := "checkDifferent", desc := "(LLogCompactor$Column;I)V" } : Jvm.MethodName)) ∈ lw_all := lw_g (lw_at lw_m7 158 rfl) rfl
theorem q1695 : (Jvm.Cond.code ({ cls := "LogCompactor$Log", name := "checkDifferent", desc := "(LLogCompactor$Column;I)V" } : Jvm.MethodName) prog_6_method_10_code (2 : Nat) (Option.none : Option Jvm.ClassFile.FieldType)) ∈ lw_all := lw_g (lw_at lw_m7 159 rfl) rfl
theorem q1696 : (Jvm.Cond.methodLink "LogCompactor$Log" (134 : Nat) ({ cls := "LogCompactor$Column", name := "different", desc := "()I" } : Jvm.MethodName)) ∈ lw_all := lw_g (lw_at lw_m7 160 rfl) rfl
theorem q1700 : (Jvm.Cond.methodLinkNest "LogCompactor$Log" (151 : Nat) ({ cls := "LogCompactor$Column", name := "first", desc := "(I)I" } : Jvm.MethodName) "LogCompactor") ∈ lw_tbl := lw_at lw_m7 164 rfl
theorem q1701 : (Jvm.Cond.classLink "LogCompactor$Log" (107 : Nat) "java/lang/Integer") ∈ lw_all := lw_g (lw_at lw_m7 165 rfl) rfl
theorem q2327 : (Jvm.Cond.castable "LogCompactor$Log" "java/lang/Object") ∈ lw_tbl := lw_at lw_m10 71 rfl
theorem in_X2 : ∀ w ∈ wsX20, w ∈ lw_all := lw_in wsX20 [213, 215, 217, 219] (by decide +kernel) (by decide +kernel)
/-! LogCompactor$Column -/
set_option maxRecDepth 100000
def RX3 : String := "LogCompactor$Column"
def TX3 : u_T := fun k => match k with
  | 0 => ("LogCompactor$Column", "tokens", "[LLogCompactor$Token;", true)
  | _ => ("LogCompactor$Column", "count", "I", false)
def tyX3 : Nat → FieldType := fun k => match k with
  | 0 => .array (.object "LogCompactor$Token")
  | _ => .int
abbrev wsX30 : List Cond := u_ws RX3 TX3 2
theorem nmX3 : ∀ a, a < 2 → ∀ b, b < 2 → a ≠ b → (TX3 a).2.1 ≠ (TX3 b).2.1 := by decide +kernel
theorem tyX3_ok : ∀ k, k < 2 → parseFieldDescriptor (TX3 k).2.2.1 = some (tyX3 k) := by decide +kernel
abbrev cX3_init : ByteArray := prog_2_method_1_code
def yX3_init : MethodName := ⟨RX3, "<init>", "()V"⟩
def dkwX3_init_0 : List UInt8 := [42, 183, 0, 3, 42, 16, 40, 189, 0, 9, 181, 0, 11, 177]
abbrev dktX3_init_0 : List UInt8 := dkwX3_init_0 ++ []
theorem dksX3_init_0 : cX3_init.data.toList.drop 0 = dktX3_init_0 := by decide +kernel
theorem dX3_init_0 : decode cX3_init 0 = .ok (.aload_n 0, 1) := dk_42 (dk_at dksX3_init_0 0 rfl rfl)
theorem dX3_init_1 : decode cX3_init 1 = .ok (.invokespecial 3, 3) := dk_183 0 3 (dk_at dksX3_init_0 1 rfl rfl)
theorem dX3_init_4 : decode cX3_init 4 = .ok (.aload_n 0, 1) := dk_42 (dk_at dksX3_init_0 4 rfl rfl)
theorem dX3_init_5 : decode cX3_init 5 = .ok (.bipush 40, 2) := dk_16 40 (dk_at dksX3_init_0 5 rfl rfl)
theorem dX3_init_7 : decode cX3_init 7 = .ok (.anewarray 9, 3) := dk_189 0 9 (dk_at dksX3_init_0 7 rfl rfl)
theorem dX3_init_10 : decode cX3_init 10 = .ok (.putfield 11, 3) := dk_181 0 11 (dk_at dksX3_init_0 10 rfl rfl)
theorem dX3_init_13 : decode cX3_init 13 = .ok (.return_, 1) := dk_177 (dk_at dksX3_init_0 13 rfl rfl)
abbrev cX3_fill : ByteArray := prog_2_method_3_code
def yX3_fill : MethodName := ⟨RX3, "fill", "(Ljava/util/ArrayList;LLogCompactor$Template;I)V"⟩
def dkwX3_fill_2 : List UInt8 := [192, 0, 46, 180, 0, 48, 29, 182, 0, 37, 192, 0, 9, 83, 132, 4, 1, 167, 255, 205, 177]
abbrev dktX3_fill_2 : List UInt8 := dkwX3_fill_2 ++ []
def dkwX3_fill_1 : List UInt8 := [180, 0, 11, 21, 4, 43, 44, 180, 0, 21, 21, 4, 182, 0, 37, 192, 0, 41, 182, 0, 43, 182, 0, 37]
abbrev dktX3_fill_1 : List UInt8 := dkwX3_fill_1 ++ dktX3_fill_2
def dkwX3_fill_0 : List UInt8 := [42, 44, 180, 0, 21, 182, 0, 27, 181, 0, 33, 3, 54, 4, 21, 4, 42, 180, 0, 33, 162, 0, 48, 42]
abbrev dktX3_fill_0 : List UInt8 := dkwX3_fill_0 ++ dktX3_fill_1
theorem dksX3_fill_0 : cX3_fill.data.toList.drop 0 = dktX3_fill_0 := by decide +kernel
theorem dksX3_fill_1 : cX3_fill.data.toList.drop 24 = dktX3_fill_1 := dk_seg dksX3_fill_0 24 rfl rfl
theorem dksX3_fill_2 : cX3_fill.data.toList.drop 48 = dktX3_fill_2 := dk_seg dksX3_fill_1 24 rfl rfl
theorem dX3_fill_0 : decode cX3_fill 0 = .ok (.aload_n 0, 1) := dk_42 (dk_at dksX3_fill_0 0 rfl rfl)
theorem dX3_fill_1 : decode cX3_fill 1 = .ok (.aload_n 2, 1) := dk_44 (dk_at dksX3_fill_0 1 rfl rfl)
theorem dX3_fill_2 : decode cX3_fill 2 = .ok (.getfield 21, 3) := dk_180 0 21 (dk_at dksX3_fill_0 2 rfl rfl)
theorem dX3_fill_5 : decode cX3_fill 5 = .ok (.invokevirtual 27, 3) := dk_182 0 27 (dk_at dksX3_fill_0 5 rfl rfl)
theorem dX3_fill_8 : decode cX3_fill 8 = .ok (.putfield 33, 3) := dk_181 0 33 (dk_at dksX3_fill_0 8 rfl rfl)
theorem dX3_fill_11 : decode cX3_fill 11 = .ok (.iconst 0, 1) := dk_3 (dk_at dksX3_fill_0 11 rfl rfl)
theorem dX3_fill_12 : decode cX3_fill 12 = .ok (.istore 4, 2) := dk_54 4 (dk_at dksX3_fill_0 12 rfl rfl)
theorem dX3_fill_14 : decode cX3_fill 14 = .ok (.iload 4, 2) := dk_21 4 (dk_at dksX3_fill_0 14 rfl rfl)
theorem dX3_fill_16 : decode cX3_fill 16 = .ok (.aload_n 0, 1) := dk_42 (dk_at dksX3_fill_0 16 rfl rfl)
theorem dX3_fill_17 : decode cX3_fill 17 = .ok (.getfield 33, 3) := dk_180 0 33 (dk_at dksX3_fill_0 17 rfl rfl)
theorem dX3_fill_20 : decode cX3_fill 20 = .ok (.if_icmp .ge 48, 3) := dk_162 0 48 (dk_at dksX3_fill_0 20 rfl rfl)
theorem dX3_fill_23 : decode cX3_fill 23 = .ok (.aload_n 0, 1) := dk_42 (dk_at dksX3_fill_0 23 rfl rfl)
theorem dX3_fill_24 : decode cX3_fill 24 = .ok (.getfield 11, 3) := dk_180 0 11 (dk_at dksX3_fill_1 0 rfl rfl)
theorem dX3_fill_27 : decode cX3_fill 27 = .ok (.iload 4, 2) := dk_21 4 (dk_at dksX3_fill_1 3 rfl rfl)
theorem dX3_fill_29 : decode cX3_fill 29 = .ok (.aload_n 1, 1) := dk_43 (dk_at dksX3_fill_1 5 rfl rfl)
theorem dX3_fill_30 : decode cX3_fill 30 = .ok (.aload_n 2, 1) := dk_44 (dk_at dksX3_fill_1 6 rfl rfl)
theorem dX3_fill_31 : decode cX3_fill 31 = .ok (.getfield 21, 3) := dk_180 0 21 (dk_at dksX3_fill_1 7 rfl rfl)
theorem dX3_fill_34 : decode cX3_fill 34 = .ok (.iload 4, 2) := dk_21 4 (dk_at dksX3_fill_1 10 rfl rfl)
theorem dX3_fill_36 : decode cX3_fill 36 = .ok (.invokevirtual 37, 3) := dk_182 0 37 (dk_at dksX3_fill_1 12 rfl rfl)
theorem dX3_fill_39 : decode cX3_fill 39 = .ok (.checkcast 41, 3) := dk_192 0 41 (dk_at dksX3_fill_1 15 rfl rfl)
theorem dX3_fill_42 : decode cX3_fill 42 = .ok (.invokevirtual 43, 3) := dk_182 0 43 (dk_at dksX3_fill_1 18 rfl rfl)
theorem dX3_fill_45 : decode cX3_fill 45 = .ok (.invokevirtual 37, 3) := dk_182 0 37 (dk_at dksX3_fill_1 21 rfl rfl)
theorem dX3_fill_48 : decode cX3_fill 48 = .ok (.checkcast 46, 3) := dk_192 0 46 (dk_at dksX3_fill_2 0 rfl rfl)
theorem dX3_fill_51 : decode cX3_fill 51 = .ok (.getfield 48, 3) := dk_180 0 48 (dk_at dksX3_fill_2 3 rfl rfl)
theorem dX3_fill_54 : decode cX3_fill 54 = .ok (.iload_n 3, 1) := dk_29 (dk_at dksX3_fill_2 6 rfl rfl)
theorem dX3_fill_55 : decode cX3_fill 55 = .ok (.invokevirtual 37, 3) := dk_182 0 37 (dk_at dksX3_fill_2 7 rfl rfl)
theorem dX3_fill_58 : decode cX3_fill 58 = .ok (.checkcast 9, 3) := dk_192 0 9 (dk_at dksX3_fill_2 10 rfl rfl)
theorem dX3_fill_61 : decode cX3_fill 61 = .ok (.aastore, 1) := dk_83 (dk_at dksX3_fill_2 13 rfl rfl)
theorem dX3_fill_62 : decode cX3_fill 62 = .ok (.iinc 4 1, 3) := dk_132 4 1 (dk_at dksX3_fill_2 14 rfl rfl)
theorem dX3_fill_65 : decode cX3_fill 65 = .ok (.goto (-51), 3) := dk_167 255 205 (dk_at dksX3_fill_2 17 rfl rfl)
theorem dX3_fill_68 : decode cX3_fill 68 = .ok (.return_, 1) := dk_177 (dk_at dksX3_fill_2 20 rfl rfl)
abbrev cX3_leastCost : ByteArray := prog_2_method_15_code
def yX3_leastCost : MethodName := ⟨RX3, "leastCost", "()I"⟩
def dkwX3_leastCost_0 : List UInt8 := [42, 42, 182, 0, 91, 182, 0, 94, 172]
abbrev dktX3_leastCost_0 : List UInt8 := dkwX3_leastCost_0 ++ []
theorem dksX3_leastCost_0 : cX3_leastCost.data.toList.drop 0 = dktX3_leastCost_0 := by decide +kernel
theorem dX3_leastCost_0 : decode cX3_leastCost 0 = .ok (.aload_n 0, 1) := dk_42 (dk_at dksX3_leastCost_0 0 rfl rfl)
theorem dX3_leastCost_1 : decode cX3_leastCost 1 = .ok (.aload_n 0, 1) := dk_42 (dk_at dksX3_leastCost_0 1 rfl rfl)
theorem dX3_leastCost_2 : decode cX3_leastCost 2 = .ok (.invokevirtual 91, 3) := dk_182 0 91 (dk_at dksX3_leastCost_0 2 rfl rfl)
theorem dX3_leastCost_5 : decode cX3_leastCost 5 = .ok (.invokevirtual 94, 3) := dk_182 0 94 (dk_at dksX3_leastCost_0 5 rfl rfl)
theorem dX3_leastCost_8 : decode cX3_leastCost 8 = .ok (.ireturn, 1) := dk_172 (dk_at dksX3_leastCost_0 8 rfl rfl)
abbrev cX3_bestWay : ByteArray := prog_2_method_16_code
def yX3_bestWay : MethodName := ⟨RX3, "bestWay", "()I"⟩
def dkwX3_bestWay_1 : List UInt8 := [27, 182, 0, 94, 162, 0, 7, 28, 167, 0, 4, 27, 60, 132, 2, 1, 167, 255, 220, 27, 172]
abbrev dktX3_bestWay_1 : List UInt8 := dkwX3_bestWay_1 ++ []
def dkwX3_bestWay_0 : List UInt8 := [3, 60, 4, 61, 28, 7, 162, 0, 37, 42, 28, 182, 0, 94, 2, 159, 0, 20, 42, 28, 182, 0, 94, 42]
abbrev dktX3_bestWay_0 : List UInt8 := dkwX3_bestWay_0 ++ dktX3_bestWay_1
theorem dksX3_bestWay_0 : cX3_bestWay.data.toList.drop 0 = dktX3_bestWay_0 := by decide +kernel
theorem dksX3_bestWay_1 : cX3_bestWay.data.toList.drop 24 = dktX3_bestWay_1 := dk_seg dksX3_bestWay_0 24 rfl rfl
theorem dX3_bestWay_0 : decode cX3_bestWay 0 = .ok (.iconst 0, 1) := dk_3 (dk_at dksX3_bestWay_0 0 rfl rfl)
theorem dX3_bestWay_1 : decode cX3_bestWay 1 = .ok (.istore_n 1, 1) := dk_60 (dk_at dksX3_bestWay_0 1 rfl rfl)
theorem dX3_bestWay_2 : decode cX3_bestWay 2 = .ok (.iconst 1, 1) := dk_4 (dk_at dksX3_bestWay_0 2 rfl rfl)
theorem dX3_bestWay_3 : decode cX3_bestWay 3 = .ok (.istore_n 2, 1) := dk_61 (dk_at dksX3_bestWay_0 3 rfl rfl)
theorem dX3_bestWay_4 : decode cX3_bestWay 4 = .ok (.iload_n 2, 1) := dk_28 (dk_at dksX3_bestWay_0 4 rfl rfl)
theorem dX3_bestWay_5 : decode cX3_bestWay 5 = .ok (.iconst 4, 1) := dk_7 (dk_at dksX3_bestWay_0 5 rfl rfl)
theorem dX3_bestWay_6 : decode cX3_bestWay 6 = .ok (.if_icmp .ge 37, 3) := dk_162 0 37 (dk_at dksX3_bestWay_0 6 rfl rfl)
theorem dX3_bestWay_9 : decode cX3_bestWay 9 = .ok (.aload_n 0, 1) := dk_42 (dk_at dksX3_bestWay_0 9 rfl rfl)
theorem dX3_bestWay_10 : decode cX3_bestWay 10 = .ok (.iload_n 2, 1) := dk_28 (dk_at dksX3_bestWay_0 10 rfl rfl)
theorem dX3_bestWay_11 : decode cX3_bestWay 11 = .ok (.invokevirtual 94, 3) := dk_182 0 94 (dk_at dksX3_bestWay_0 11 rfl rfl)
theorem dX3_bestWay_14 : decode cX3_bestWay 14 = .ok (.iconst (-1), 1) := dk_2 (dk_at dksX3_bestWay_0 14 rfl rfl)
theorem dX3_bestWay_15 : decode cX3_bestWay 15 = .ok (.if_icmp .eq 20, 3) := dk_159 0 20 (dk_at dksX3_bestWay_0 15 rfl rfl)
theorem dX3_bestWay_18 : decode cX3_bestWay 18 = .ok (.aload_n 0, 1) := dk_42 (dk_at dksX3_bestWay_0 18 rfl rfl)
theorem dX3_bestWay_19 : decode cX3_bestWay 19 = .ok (.iload_n 2, 1) := dk_28 (dk_at dksX3_bestWay_0 19 rfl rfl)
theorem dX3_bestWay_20 : decode cX3_bestWay 20 = .ok (.invokevirtual 94, 3) := dk_182 0 94 (dk_at dksX3_bestWay_0 20 rfl rfl)
theorem dX3_bestWay_23 : decode cX3_bestWay 23 = .ok (.aload_n 0, 1) := dk_42 (dk_at dksX3_bestWay_0 23 rfl rfl)
theorem dX3_bestWay_24 : decode cX3_bestWay 24 = .ok (.iload_n 1, 1) := dk_27 (dk_at dksX3_bestWay_1 0 rfl rfl)
theorem dX3_bestWay_25 : decode cX3_bestWay 25 = .ok (.invokevirtual 94, 3) := dk_182 0 94 (dk_at dksX3_bestWay_1 1 rfl rfl)
theorem dX3_bestWay_28 : decode cX3_bestWay 28 = .ok (.if_icmp .ge 7, 3) := dk_162 0 7 (dk_at dksX3_bestWay_1 4 rfl rfl)
theorem dX3_bestWay_31 : decode cX3_bestWay 31 = .ok (.iload_n 2, 1) := dk_28 (dk_at dksX3_bestWay_1 7 rfl rfl)
theorem dX3_bestWay_32 : decode cX3_bestWay 32 = .ok (.goto 4, 3) := dk_167 0 4 (dk_at dksX3_bestWay_1 8 rfl rfl)
theorem dX3_bestWay_35 : decode cX3_bestWay 35 = .ok (.iload_n 1, 1) := dk_27 (dk_at dksX3_bestWay_1 11 rfl rfl)
theorem dX3_bestWay_36 : decode cX3_bestWay 36 = .ok (.istore_n 1, 1) := dk_60 (dk_at dksX3_bestWay_1 12 rfl rfl)
theorem dX3_bestWay_37 : decode cX3_bestWay 37 = .ok (.iinc 2 1, 3) := dk_132 2 1 (dk_at dksX3_bestWay_1 13 rfl rfl)
theorem dX3_bestWay_40 : decode cX3_bestWay 40 = .ok (.goto (-36), 3) := dk_167 255 220 (dk_at dksX3_bestWay_1 16 rfl rfl)
theorem dX3_bestWay_43 : decode cX3_bestWay 43 = .ok (.iload_n 1, 1) := dk_27 (dk_at dksX3_bestWay_1 19 rfl rfl)
theorem dX3_bestWay_44 : decode cX3_bestWay 44 = .ok (.ireturn, 1) := dk_172 (dk_at dksX3_bestWay_1 20 rfl rfl)
abbrev cX3_cost : ByteArray := prog_2_method_14_code
def yX3_cost : MethodName := ⟨RX3, "cost", "(I)I"⟩
def dkwX3_cost_1 : List UInt8 := [162, 0, 18, 28, 42, 27, 29, 182, 0, 87, 96, 61, 132, 3, 1, 167, 255, 236, 28, 172]
abbrev dktX3_cost_1 : List UInt8 := dkwX3_cost_1 ++ []
def dkwX3_cost_0 : List UInt8 := [27, 6, 160, 0, 12, 42, 182, 0, 83, 154, 0, 5, 2, 172, 3, 61, 3, 62, 29, 42, 180, 0, 33]
abbrev dktX3_cost_0 : List UInt8 := dkwX3_cost_0 ++ dktX3_cost_1
theorem dksX3_cost_0 : cX3_cost.data.toList.drop 0 = dktX3_cost_0 := by decide +kernel
theorem dksX3_cost_1 : cX3_cost.data.toList.drop 23 = dktX3_cost_1 := dk_seg dksX3_cost_0 23 rfl rfl
theorem dX3_cost_0 : decode cX3_cost 0 = .ok (.iload_n 1, 1) := dk_27 (dk_at dksX3_cost_0 0 rfl rfl)
theorem dX3_cost_1 : decode cX3_cost 1 = .ok (.iconst 3, 1) := dk_6 (dk_at dksX3_cost_0 1 rfl rfl)
theorem dX3_cost_2 : decode cX3_cost 2 = .ok (.if_icmp .ne 12, 3) := dk_160 0 12 (dk_at dksX3_cost_0 2 rfl rfl)
theorem dX3_cost_5 : decode cX3_cost 5 = .ok (.aload_n 0, 1) := dk_42 (dk_at dksX3_cost_0 5 rfl rfl)
theorem dX3_cost_6 : decode cX3_cost 6 = .ok (.invokevirtual 83, 3) := dk_182 0 83 (dk_at dksX3_cost_0 6 rfl rfl)
theorem dX3_cost_9 : decode cX3_cost 9 = .ok (.ifCond .ne 5, 3) := dk_154 0 5 (dk_at dksX3_cost_0 9 rfl rfl)
theorem dX3_cost_12 : decode cX3_cost 12 = .ok (.iconst (-1), 1) := dk_2 (dk_at dksX3_cost_0 12 rfl rfl)
theorem dX3_cost_13 : decode cX3_cost 13 = .ok (.ireturn, 1) := dk_172 (dk_at dksX3_cost_0 13 rfl rfl)
theorem dX3_cost_14 : decode cX3_cost 14 = .ok (.iconst 0, 1) := dk_3 (dk_at dksX3_cost_0 14 rfl rfl)
theorem dX3_cost_15 : decode cX3_cost 15 = .ok (.istore_n 2, 1) := dk_61 (dk_at dksX3_cost_0 15 rfl rfl)
theorem dX3_cost_16 : decode cX3_cost 16 = .ok (.iconst 0, 1) := dk_3 (dk_at dksX3_cost_0 16 rfl rfl)
theorem dX3_cost_17 : decode cX3_cost 17 = .ok (.istore_n 3, 1) := dk_62 (dk_at dksX3_cost_0 17 rfl rfl)
theorem dX3_cost_18 : decode cX3_cost 18 = .ok (.iload_n 3, 1) := dk_29 (dk_at dksX3_cost_0 18 rfl rfl)
theorem dX3_cost_19 : decode cX3_cost 19 = .ok (.aload_n 0, 1) := dk_42 (dk_at dksX3_cost_0 19 rfl rfl)
theorem dX3_cost_20 : decode cX3_cost 20 = .ok (.getfield 33, 3) := dk_180 0 33 (dk_at dksX3_cost_0 20 rfl rfl)
theorem dX3_cost_23 : decode cX3_cost 23 = .ok (.if_icmp .ge 18, 3) := dk_162 0 18 (dk_at dksX3_cost_1 0 rfl rfl)
theorem dX3_cost_26 : decode cX3_cost 26 = .ok (.iload_n 2, 1) := dk_28 (dk_at dksX3_cost_1 3 rfl rfl)
theorem dX3_cost_27 : decode cX3_cost 27 = .ok (.aload_n 0, 1) := dk_42 (dk_at dksX3_cost_1 4 rfl rfl)
theorem dX3_cost_28 : decode cX3_cost 28 = .ok (.iload_n 1, 1) := dk_27 (dk_at dksX3_cost_1 5 rfl rfl)
theorem dX3_cost_29 : decode cX3_cost 29 = .ok (.iload_n 3, 1) := dk_29 (dk_at dksX3_cost_1 6 rfl rfl)
theorem dX3_cost_30 : decode cX3_cost 30 = .ok (.invokevirtual 87, 3) := dk_182 0 87 (dk_at dksX3_cost_1 7 rfl rfl)
theorem dX3_cost_33 : decode cX3_cost 33 = .ok (.iadd, 1) := dk_96 (dk_at dksX3_cost_1 10 rfl rfl)
theorem dX3_cost_34 : decode cX3_cost 34 = .ok (.istore_n 2, 1) := dk_61 (dk_at dksX3_cost_1 11 rfl rfl)
theorem dX3_cost_35 : decode cX3_cost 35 = .ok (.iinc 3 1, 3) := dk_132 3 1 (dk_at dksX3_cost_1 12 rfl rfl)
theorem dX3_cost_38 : decode cX3_cost 38 = .ok (.goto (-20), 3) := dk_167 255 236 (dk_at dksX3_cost_1 15 rfl rfl)
theorem dX3_cost_41 : decode cX3_cost 41 = .ok (.iload_n 2, 1) := dk_28 (dk_at dksX3_cost_1 18 rfl rfl)
theorem dX3_cost_42 : decode cX3_cost 42 = .ok (.ireturn, 1) := dk_172 (dk_at dksX3_cost_1 19 rfl rfl)
abbrev cX3_isNumeric : ByteArray := prog_2_method_11_code
def yX3_isNumeric : MethodName := ⟨RX3, "isNumeric", "()Z"⟩
def dkwX3_isNumeric_1 : List UInt8 := [160, 0, 7, 4, 167, 0, 4, 3, 126, 60, 132, 2, 1, 167, 255, 224, 27, 172]
abbrev dktX3_isNumeric_1 : List UInt8 := dkwX3_isNumeric_1 ++ []
def dkwX3_isNumeric_0 : List UInt8 := [4, 60, 3, 61, 28, 42, 180, 0, 33, 162, 0, 30, 27, 42, 180, 0, 11, 28, 50, 180, 0, 65, 5]
abbrev dktX3_isNumeric_0 : List UInt8 := dkwX3_isNumeric_0 ++ dktX3_isNumeric_1
theorem dksX3_isNumeric_0 : cX3_isNumeric.data.toList.drop 0 = dktX3_isNumeric_0 := by decide +kernel
theorem dksX3_isNumeric_1 : cX3_isNumeric.data.toList.drop 23 = dktX3_isNumeric_1 := dk_seg dksX3_isNumeric_0 23 rfl rfl
theorem dX3_isNumeric_0 : decode cX3_isNumeric 0 = .ok (.iconst 1, 1) := dk_4 (dk_at dksX3_isNumeric_0 0 rfl rfl)
theorem dX3_isNumeric_1 : decode cX3_isNumeric 1 = .ok (.istore_n 1, 1) := dk_60 (dk_at dksX3_isNumeric_0 1 rfl rfl)
theorem dX3_isNumeric_2 : decode cX3_isNumeric 2 = .ok (.iconst 0, 1) := dk_3 (dk_at dksX3_isNumeric_0 2 rfl rfl)
theorem dX3_isNumeric_3 : decode cX3_isNumeric 3 = .ok (.istore_n 2, 1) := dk_61 (dk_at dksX3_isNumeric_0 3 rfl rfl)
theorem dX3_isNumeric_4 : decode cX3_isNumeric 4 = .ok (.iload_n 2, 1) := dk_28 (dk_at dksX3_isNumeric_0 4 rfl rfl)
theorem dX3_isNumeric_5 : decode cX3_isNumeric 5 = .ok (.aload_n 0, 1) := dk_42 (dk_at dksX3_isNumeric_0 5 rfl rfl)
theorem dX3_isNumeric_6 : decode cX3_isNumeric 6 = .ok (.getfield 33, 3) := dk_180 0 33 (dk_at dksX3_isNumeric_0 6 rfl rfl)
theorem dX3_isNumeric_9 : decode cX3_isNumeric 9 = .ok (.if_icmp .ge 30, 3) := dk_162 0 30 (dk_at dksX3_isNumeric_0 9 rfl rfl)
theorem dX3_isNumeric_12 : decode cX3_isNumeric 12 = .ok (.iload_n 1, 1) := dk_27 (dk_at dksX3_isNumeric_0 12 rfl rfl)
theorem dX3_isNumeric_13 : decode cX3_isNumeric 13 = .ok (.aload_n 0, 1) := dk_42 (dk_at dksX3_isNumeric_0 13 rfl rfl)
theorem dX3_isNumeric_14 : decode cX3_isNumeric 14 = .ok (.getfield 11, 3) := dk_180 0 11 (dk_at dksX3_isNumeric_0 14 rfl rfl)
theorem dX3_isNumeric_17 : decode cX3_isNumeric 17 = .ok (.iload_n 2, 1) := dk_28 (dk_at dksX3_isNumeric_0 17 rfl rfl)
theorem dX3_isNumeric_18 : decode cX3_isNumeric 18 = .ok (.aaload, 1) := dk_50 (dk_at dksX3_isNumeric_0 18 rfl rfl)
theorem dX3_isNumeric_19 : decode cX3_isNumeric 19 = .ok (.getfield 65, 3) := dk_180 0 65 (dk_at dksX3_isNumeric_0 19 rfl rfl)
theorem dX3_isNumeric_22 : decode cX3_isNumeric 22 = .ok (.iconst 2, 1) := dk_5 (dk_at dksX3_isNumeric_0 22 rfl rfl)
theorem dX3_isNumeric_23 : decode cX3_isNumeric 23 = .ok (.if_icmp .ne 7, 3) := dk_160 0 7 (dk_at dksX3_isNumeric_1 0 rfl rfl)
theorem dX3_isNumeric_26 : decode cX3_isNumeric 26 = .ok (.iconst 1, 1) := dk_4 (dk_at dksX3_isNumeric_1 3 rfl rfl)
theorem dX3_isNumeric_27 : decode cX3_isNumeric 27 = .ok (.goto 4, 3) := dk_167 0 4 (dk_at dksX3_isNumeric_1 4 rfl rfl)
theorem dX3_isNumeric_30 : decode cX3_isNumeric 30 = .ok (.iconst 0, 1) := dk_3 (dk_at dksX3_isNumeric_1 7 rfl rfl)
theorem dX3_isNumeric_31 : decode cX3_isNumeric 31 = .ok (.iand, 1) := dk_126 (dk_at dksX3_isNumeric_1 8 rfl rfl)
theorem dX3_isNumeric_32 : decode cX3_isNumeric 32 = .ok (.istore_n 1, 1) := dk_60 (dk_at dksX3_isNumeric_1 9 rfl rfl)
theorem dX3_isNumeric_33 : decode cX3_isNumeric 33 = .ok (.iinc 2 1, 3) := dk_132 2 1 (dk_at dksX3_isNumeric_1 10 rfl rfl)
theorem dX3_isNumeric_36 : decode cX3_isNumeric 36 = .ok (.goto (-32), 3) := dk_167 255 224 (dk_at dksX3_isNumeric_1 13 rfl rfl)
theorem dX3_isNumeric_39 : decode cX3_isNumeric 39 = .ok (.iload_n 1, 1) := dk_27 (dk_at dksX3_isNumeric_1 16 rfl rfl)
theorem dX3_isNumeric_40 : decode cX3_isNumeric 40 = .ok (.ireturn, 1) := dk_172 (dk_at dksX3_isNumeric_1 17 rfl rfl)
abbrev cX3_costOf : ByteArray := prog_2_method_13_code
def yX3_costOf : MethodName := ⟨RX3, "costOf", "(II)I"⟩
def dkwX3_costOf_5 : List UInt8 := [172]
abbrev dktX3_costOf_5 : List UInt8 := dkwX3_costOf_5 ++ []
def dkwX3_costOf_4 : List UInt8 := [28, 154, 0, 7, 3, 167, 0, 14, 42, 180, 0, 11, 28, 4, 100, 50, 182, 0, 77, 100, 184, 0, 80, 96]
abbrev dktX3_costOf_4 : List UInt8 := dkwX3_costOf_4 ++ dktX3_costOf_5
def dkwX3_costOf_3 : List UInt8 := [182, 0, 62, 153, 0, 9, 29, 5, 96, 167, 0, 4, 3, 172, 4, 42, 180, 0, 11, 28, 50, 182, 0, 77]
abbrev dktX3_costOf_3 : List UInt8 := dkwX3_costOf_3 ++ dktX3_costOf_4
def dkwX3_costOf_2 : List UInt8 := [29, 4, 96, 172, 4, 42, 28, 182, 0, 58, 153, 0, 9, 29, 4, 96, 167, 0, 4, 3, 96, 172, 42, 28]
abbrev dktX3_costOf_2 : List UInt8 := dkwX3_costOf_2 ++ dktX3_costOf_3
def dkwX3_costOf_1 : List UInt8 := [170, 0, 0, 0, 0, 64, 0, 0, 0, 0, 0, 0, 0, 2, 0, 0, 0, 26, 0, 0, 0, 30, 0, 0, 0, 48]
abbrev dktX3_costOf_1 : List UInt8 := dkwX3_costOf_1 ++ dktX3_costOf_2
def dkwX3_costOf_0 : List UInt8 := [42, 180, 0, 11, 28, 50, 180, 0, 68, 182, 0, 72, 62, 27]
abbrev dktX3_costOf_0 : List UInt8 := dkwX3_costOf_0 ++ dktX3_costOf_1
theorem dksX3_costOf_0 : cX3_costOf.data.toList.drop 0 = dktX3_costOf_0 := by decide +kernel
theorem dksX3_costOf_1 : cX3_costOf.data.toList.drop 14 = dktX3_costOf_1 := dk_seg dksX3_costOf_0 14 rfl rfl
theorem dksX3_costOf_2 : cX3_costOf.data.toList.drop 40 = dktX3_costOf_2 := dk_seg dksX3_costOf_1 26 rfl rfl
theorem dksX3_costOf_3 : cX3_costOf.data.toList.drop 64 = dktX3_costOf_3 := dk_seg dksX3_costOf_2 24 rfl rfl
theorem dksX3_costOf_4 : cX3_costOf.data.toList.drop 88 = dktX3_costOf_4 := dk_seg dksX3_costOf_3 24 rfl rfl
theorem dksX3_costOf_5 : cX3_costOf.data.toList.drop 112 = dktX3_costOf_5 := dk_seg dksX3_costOf_4 24 rfl rfl
theorem dX3_costOf_0 : decode cX3_costOf 0 = .ok (.aload_n 0, 1) := dk_42 (dk_at dksX3_costOf_0 0 rfl rfl)
theorem dX3_costOf_1 : decode cX3_costOf 1 = .ok (.getfield 11, 3) := dk_180 0 11 (dk_at dksX3_costOf_0 1 rfl rfl)
theorem dX3_costOf_4 : decode cX3_costOf 4 = .ok (.iload_n 2, 1) := dk_28 (dk_at dksX3_costOf_0 4 rfl rfl)
theorem dX3_costOf_5 : decode cX3_costOf 5 = .ok (.aaload, 1) := dk_50 (dk_at dksX3_costOf_0 5 rfl rfl)
theorem dX3_costOf_6 : decode cX3_costOf 6 = .ok (.getfield 68, 3) := dk_180 0 68 (dk_at dksX3_costOf_0 6 rfl rfl)
theorem dX3_costOf_9 : decode cX3_costOf 9 = .ok (.invokevirtual 72, 3) := dk_182 0 72 (dk_at dksX3_costOf_0 9 rfl rfl)
theorem dX3_costOf_12 : decode cX3_costOf 12 = .ok (.istore_n 3, 1) := dk_62 (dk_at dksX3_costOf_0 12 rfl rfl)
theorem dX3_costOf_13 : decode cX3_costOf 13 = .ok (.iload_n 1, 1) := dk_27 (dk_at dksX3_costOf_0 13 rfl rfl)
theorem dX3_costOf_14 : decode cX3_costOf 14 = .ok (.tableswitch 64 0 2 #[26, 30, 48], 26) := by decide +kernel
theorem dX3_costOf_40 : decode cX3_costOf 40 = .ok (.iload_n 3, 1) := dk_29 (dk_at dksX3_costOf_2 0 rfl rfl)
theorem dX3_costOf_41 : decode cX3_costOf 41 = .ok (.iconst 1, 1) := dk_4 (dk_at dksX3_costOf_2 1 rfl rfl)
theorem dX3_costOf_42 : decode cX3_costOf 42 = .ok (.iadd, 1) := dk_96 (dk_at dksX3_costOf_2 2 rfl rfl)
theorem dX3_costOf_43 : decode cX3_costOf 43 = .ok (.ireturn, 1) := dk_172 (dk_at dksX3_costOf_2 3 rfl rfl)
theorem dX3_costOf_44 : decode cX3_costOf 44 = .ok (.iconst 1, 1) := dk_4 (dk_at dksX3_costOf_2 4 rfl rfl)
theorem dX3_costOf_45 : decode cX3_costOf 45 = .ok (.aload_n 0, 1) := dk_42 (dk_at dksX3_costOf_2 5 rfl rfl)
theorem dX3_costOf_46 : decode cX3_costOf 46 = .ok (.iload_n 2, 1) := dk_28 (dk_at dksX3_costOf_2 6 rfl rfl)
theorem dX3_costOf_47 : decode cX3_costOf 47 = .ok (.invokevirtual 58, 3) := dk_182 0 58 (dk_at dksX3_costOf_2 7 rfl rfl)
theorem dX3_costOf_50 : decode cX3_costOf 50 = .ok (.ifCond .eq 9, 3) := dk_153 0 9 (dk_at dksX3_costOf_2 10 rfl rfl)
theorem dX3_costOf_53 : decode cX3_costOf 53 = .ok (.iload_n 3, 1) := dk_29 (dk_at dksX3_costOf_2 13 rfl rfl)
theorem dX3_costOf_54 : decode cX3_costOf 54 = .ok (.iconst 1, 1) := dk_4 (dk_at dksX3_costOf_2 14 rfl rfl)
theorem dX3_costOf_55 : decode cX3_costOf 55 = .ok (.iadd, 1) := dk_96 (dk_at dksX3_costOf_2 15 rfl rfl)
theorem dX3_costOf_56 : decode cX3_costOf 56 = .ok (.goto 4, 3) := dk_167 0 4 (dk_at dksX3_costOf_2 16 rfl rfl)
theorem dX3_costOf_59 : decode cX3_costOf 59 = .ok (.iconst 0, 1) := dk_3 (dk_at dksX3_costOf_2 19 rfl rfl)
theorem dX3_costOf_60 : decode cX3_costOf 60 = .ok (.iadd, 1) := dk_96 (dk_at dksX3_costOf_2 20 rfl rfl)
theorem dX3_costOf_61 : decode cX3_costOf 61 = .ok (.ireturn, 1) := dk_172 (dk_at dksX3_costOf_2 21 rfl rfl)
theorem dX3_costOf_62 : decode cX3_costOf 62 = .ok (.aload_n 0, 1) := dk_42 (dk_at dksX3_costOf_2 22 rfl rfl)
theorem dX3_costOf_63 : decode cX3_costOf 63 = .ok (.iload_n 2, 1) := dk_28 (dk_at dksX3_costOf_2 23 rfl rfl)
theorem dX3_costOf_64 : decode cX3_costOf 64 = .ok (.invokevirtual 62, 3) := dk_182 0 62 (dk_at dksX3_costOf_3 0 rfl rfl)
theorem dX3_costOf_67 : decode cX3_costOf 67 = .ok (.ifCond .eq 9, 3) := dk_153 0 9 (dk_at dksX3_costOf_3 3 rfl rfl)
theorem dX3_costOf_70 : decode cX3_costOf 70 = .ok (.iload_n 3, 1) := dk_29 (dk_at dksX3_costOf_3 6 rfl rfl)
theorem dX3_costOf_71 : decode cX3_costOf 71 = .ok (.iconst 2, 1) := dk_5 (dk_at dksX3_costOf_3 7 rfl rfl)
theorem dX3_costOf_72 : decode cX3_costOf 72 = .ok (.iadd, 1) := dk_96 (dk_at dksX3_costOf_3 8 rfl rfl)
theorem dX3_costOf_73 : decode cX3_costOf 73 = .ok (.goto 4, 3) := dk_167 0 4 (dk_at dksX3_costOf_3 9 rfl rfl)
theorem dX3_costOf_76 : decode cX3_costOf 76 = .ok (.iconst 0, 1) := dk_3 (dk_at dksX3_costOf_3 12 rfl rfl)
theorem dX3_costOf_77 : decode cX3_costOf 77 = .ok (.ireturn, 1) := dk_172 (dk_at dksX3_costOf_3 13 rfl rfl)
theorem dX3_costOf_78 : decode cX3_costOf 78 = .ok (.iconst 1, 1) := dk_4 (dk_at dksX3_costOf_3 14 rfl rfl)
theorem dX3_costOf_79 : decode cX3_costOf 79 = .ok (.aload_n 0, 1) := dk_42 (dk_at dksX3_costOf_3 15 rfl rfl)
theorem dX3_costOf_80 : decode cX3_costOf 80 = .ok (.getfield 11, 3) := dk_180 0 11 (dk_at dksX3_costOf_3 16 rfl rfl)
theorem dX3_costOf_83 : decode cX3_costOf 83 = .ok (.iload_n 2, 1) := dk_28 (dk_at dksX3_costOf_3 19 rfl rfl)
theorem dX3_costOf_84 : decode cX3_costOf 84 = .ok (.aaload, 1) := dk_50 (dk_at dksX3_costOf_3 20 rfl rfl)
theorem dX3_costOf_85 : decode cX3_costOf 85 = .ok (.invokevirtual 77, 3) := dk_182 0 77 (dk_at dksX3_costOf_3 21 rfl rfl)
theorem dX3_costOf_88 : decode cX3_costOf 88 = .ok (.iload_n 2, 1) := dk_28 (dk_at dksX3_costOf_4 0 rfl rfl)
theorem dX3_costOf_89 : decode cX3_costOf 89 = .ok (.ifCond .ne 7, 3) := dk_154 0 7 (dk_at dksX3_costOf_4 1 rfl rfl)
theorem dX3_costOf_92 : decode cX3_costOf 92 = .ok (.iconst 0, 1) := dk_3 (dk_at dksX3_costOf_4 4 rfl rfl)
theorem dX3_costOf_93 : decode cX3_costOf 93 = .ok (.goto 14, 3) := dk_167 0 14 (dk_at dksX3_costOf_4 5 rfl rfl)
theorem dX3_costOf_96 : decode cX3_costOf 96 = .ok (.aload_n 0, 1) := dk_42 (dk_at dksX3_costOf_4 8 rfl rfl)
theorem dX3_costOf_97 : decode cX3_costOf 97 = .ok (.getfield 11, 3) := dk_180 0 11 (dk_at dksX3_costOf_4 9 rfl rfl)
theorem dX3_costOf_100 : decode cX3_costOf 100 = .ok (.iload_n 2, 1) := dk_28 (dk_at dksX3_costOf_4 12 rfl rfl)
theorem dX3_costOf_101 : decode cX3_costOf 101 = .ok (.iconst 1, 1) := dk_4 (dk_at dksX3_costOf_4 13 rfl rfl)
theorem dX3_costOf_102 : decode cX3_costOf 102 = .ok (.isub, 1) := dk_100 (dk_at dksX3_costOf_4 14 rfl rfl)
theorem dX3_costOf_103 : decode cX3_costOf 103 = .ok (.aaload, 1) := dk_50 (dk_at dksX3_costOf_4 15 rfl rfl)
theorem dX3_costOf_104 : decode cX3_costOf 104 = .ok (.invokevirtual 77, 3) := dk_182 0 77 (dk_at dksX3_costOf_4 16 rfl rfl)
theorem dX3_costOf_107 : decode cX3_costOf 107 = .ok (.isub, 1) := dk_100 (dk_at dksX3_costOf_4 19 rfl rfl)
theorem dX3_costOf_108 : decode cX3_costOf 108 = .ok (.invokestatic 80, 3) := dk_184 0 80 (dk_at dksX3_costOf_4 20 rfl rfl)
theorem dX3_costOf_111 : decode cX3_costOf 111 = .ok (.iadd, 1) := dk_96 (dk_at dksX3_costOf_4 23 rfl rfl)
theorem dX3_costOf_112 : decode cX3_costOf 112 = .ok (.ireturn, 1) := dk_172 (dk_at dksX3_costOf_5 0 rfl rfl)
abbrev cX3_isFirst : ByteArray := prog_2_method_5_code
def yX3_isFirst : MethodName := ⟨RX3, "isFirst", "(I)Z"⟩
def dkwX3_isFirst_0 : List UInt8 := [42, 27, 182, 0, 50, 27, 160, 0, 7, 4, 167, 0, 4, 3, 172]
abbrev dktX3_isFirst_0 : List UInt8 := dkwX3_isFirst_0 ++ []
theorem dksX3_isFirst_0 : cX3_isFirst.data.toList.drop 0 = dktX3_isFirst_0 := by decide +kernel
theorem dX3_isFirst_0 : decode cX3_isFirst 0 = .ok (.aload_n 0, 1) := dk_42 (dk_at dksX3_isFirst_0 0 rfl rfl)
theorem dX3_isFirst_1 : decode cX3_isFirst 1 = .ok (.iload_n 1, 1) := dk_27 (dk_at dksX3_isFirst_0 1 rfl rfl)
theorem dX3_isFirst_2 : decode cX3_isFirst 2 = .ok (.invokevirtual 50, 3) := dk_182 0 50 (dk_at dksX3_isFirst_0 2 rfl rfl)
theorem dX3_isFirst_5 : decode cX3_isFirst 5 = .ok (.iload_n 1, 1) := dk_27 (dk_at dksX3_isFirst_0 5 rfl rfl)
theorem dX3_isFirst_6 : decode cX3_isFirst 6 = .ok (.if_icmp .ne 7, 3) := dk_160 0 7 (dk_at dksX3_isFirst_0 6 rfl rfl)
theorem dX3_isFirst_9 : decode cX3_isFirst 9 = .ok (.iconst 1, 1) := dk_4 (dk_at dksX3_isFirst_0 9 rfl rfl)
theorem dX3_isFirst_10 : decode cX3_isFirst 10 = .ok (.goto 4, 3) := dk_167 0 4 (dk_at dksX3_isFirst_0 10 rfl rfl)
theorem dX3_isFirst_13 : decode cX3_isFirst 13 = .ok (.iconst 0, 1) := dk_3 (dk_at dksX3_isFirst_0 13 rfl rfl)
theorem dX3_isFirst_14 : decode cX3_isFirst 14 = .ok (.ireturn, 1) := dk_172 (dk_at dksX3_isFirst_0 14 rfl rfl)
abbrev cX3_first : ByteArray := prog_2_method_6_code
def yX3_first : MethodName := ⟨RX3, "first", "(I)I"⟩
def dkwX3_first_1 : List UInt8 := [167, 255, 235, 28, 172]
abbrev dktX3_first_1 : List UInt8 := dkwX3_first_1 ++ []
def dkwX3_first_0 : List UInt8 := [3, 61, 42, 180, 0, 11, 28, 50, 42, 180, 0, 11, 27, 50, 182, 0, 54, 154, 0, 9, 132, 2, 1]
abbrev dktX3_first_0 : List UInt8 := dkwX3_first_0 ++ dktX3_first_1
theorem dksX3_first_0 : cX3_first.data.toList.drop 0 = dktX3_first_0 := by decide +kernel
theorem dksX3_first_1 : cX3_first.data.toList.drop 23 = dktX3_first_1 := dk_seg dksX3_first_0 23 rfl rfl
theorem dX3_first_0 : decode cX3_first 0 = .ok (.iconst 0, 1) := dk_3 (dk_at dksX3_first_0 0 rfl rfl)
theorem dX3_first_1 : decode cX3_first 1 = .ok (.istore_n 2, 1) := dk_61 (dk_at dksX3_first_0 1 rfl rfl)
theorem dX3_first_2 : decode cX3_first 2 = .ok (.aload_n 0, 1) := dk_42 (dk_at dksX3_first_0 2 rfl rfl)
theorem dX3_first_3 : decode cX3_first 3 = .ok (.getfield 11, 3) := dk_180 0 11 (dk_at dksX3_first_0 3 rfl rfl)
theorem dX3_first_6 : decode cX3_first 6 = .ok (.iload_n 2, 1) := dk_28 (dk_at dksX3_first_0 6 rfl rfl)
theorem dX3_first_7 : decode cX3_first 7 = .ok (.aaload, 1) := dk_50 (dk_at dksX3_first_0 7 rfl rfl)
theorem dX3_first_8 : decode cX3_first 8 = .ok (.aload_n 0, 1) := dk_42 (dk_at dksX3_first_0 8 rfl rfl)
theorem dX3_first_9 : decode cX3_first 9 = .ok (.getfield 11, 3) := dk_180 0 11 (dk_at dksX3_first_0 9 rfl rfl)
theorem dX3_first_12 : decode cX3_first 12 = .ok (.iload_n 1, 1) := dk_27 (dk_at dksX3_first_0 12 rfl rfl)
theorem dX3_first_13 : decode cX3_first 13 = .ok (.aaload, 1) := dk_50 (dk_at dksX3_first_0 13 rfl rfl)
theorem dX3_first_14 : decode cX3_first 14 = .ok (.invokevirtual 54, 3) := dk_182 0 54 (dk_at dksX3_first_0 14 rfl rfl)
theorem dX3_first_17 : decode cX3_first 17 = .ok (.ifCond .ne 9, 3) := dk_154 0 9 (dk_at dksX3_first_0 17 rfl rfl)
theorem dX3_first_20 : decode cX3_first 20 = .ok (.iinc 2 1, 3) := dk_132 2 1 (dk_at dksX3_first_0 20 rfl rfl)
theorem dX3_first_23 : decode cX3_first 23 = .ok (.goto (-21), 3) := dk_167 255 235 (dk_at dksX3_first_1 0 rfl rfl)
theorem dX3_first_26 : decode cX3_first 26 = .ok (.iload_n 2, 1) := dk_28 (dk_at dksX3_first_1 3 rfl rfl)
theorem dX3_first_27 : decode cX3_first 27 = .ok (.ireturn, 1) := dk_172 (dk_at dksX3_first_1 4 rfl rfl)
abbrev cX3_beginsRun : ByteArray := prog_2_method_9_code
def yX3_beginsRun : MethodName := ⟨RX3, "beginsRun", "(I)Z"⟩
def dkwX3_beginsRun_1 : List UInt8 := [4, 167, 0, 4, 3, 172]
abbrev dktX3_beginsRun_1 : List UInt8 := dkwX3_beginsRun_1 ++ []
def dkwX3_beginsRun_0 : List UInt8 := [27, 153, 0, 23, 42, 180, 0, 11, 27, 50, 42, 180, 0, 11, 27, 4, 100, 50, 182, 0, 54, 154, 0, 7]
abbrev dktX3_beginsRun_0 : List UInt8 := dkwX3_beginsRun_0 ++ dktX3_beginsRun_1
theorem dksX3_beginsRun_0 : cX3_beginsRun.data.toList.drop 0 = dktX3_beginsRun_0 := by decide +kernel
theorem dksX3_beginsRun_1 : cX3_beginsRun.data.toList.drop 24 = dktX3_beginsRun_1 := dk_seg dksX3_beginsRun_0 24 rfl rfl
theorem dX3_beginsRun_0 : decode cX3_beginsRun 0 = .ok (.iload_n 1, 1) := dk_27 (dk_at dksX3_beginsRun_0 0 rfl rfl)
theorem dX3_beginsRun_1 : decode cX3_beginsRun 1 = .ok (.ifCond .eq 23, 3) := dk_153 0 23 (dk_at dksX3_beginsRun_0 1 rfl rfl)
theorem dX3_beginsRun_4 : decode cX3_beginsRun 4 = .ok (.aload_n 0, 1) := dk_42 (dk_at dksX3_beginsRun_0 4 rfl rfl)
theorem dX3_beginsRun_5 : decode cX3_beginsRun 5 = .ok (.getfield 11, 3) := dk_180 0 11 (dk_at dksX3_beginsRun_0 5 rfl rfl)
theorem dX3_beginsRun_8 : decode cX3_beginsRun 8 = .ok (.iload_n 1, 1) := dk_27 (dk_at dksX3_beginsRun_0 8 rfl rfl)
theorem dX3_beginsRun_9 : decode cX3_beginsRun 9 = .ok (.aaload, 1) := dk_50 (dk_at dksX3_beginsRun_0 9 rfl rfl)
theorem dX3_beginsRun_10 : decode cX3_beginsRun 10 = .ok (.aload_n 0, 1) := dk_42 (dk_at dksX3_beginsRun_0 10 rfl rfl)
theorem dX3_beginsRun_11 : decode cX3_beginsRun 11 = .ok (.getfield 11, 3) := dk_180 0 11 (dk_at dksX3_beginsRun_0 11 rfl rfl)
theorem dX3_beginsRun_14 : decode cX3_beginsRun 14 = .ok (.iload_n 1, 1) := dk_27 (dk_at dksX3_beginsRun_0 14 rfl rfl)
theorem dX3_beginsRun_15 : decode cX3_beginsRun 15 = .ok (.iconst 1, 1) := dk_4 (dk_at dksX3_beginsRun_0 15 rfl rfl)
theorem dX3_beginsRun_16 : decode cX3_beginsRun 16 = .ok (.isub, 1) := dk_100 (dk_at dksX3_beginsRun_0 16 rfl rfl)
theorem dX3_beginsRun_17 : decode cX3_beginsRun 17 = .ok (.aaload, 1) := dk_50 (dk_at dksX3_beginsRun_0 17 rfl rfl)
theorem dX3_beginsRun_18 : decode cX3_beginsRun 18 = .ok (.invokevirtual 54, 3) := dk_182 0 54 (dk_at dksX3_beginsRun_0 18 rfl rfl)
theorem dX3_beginsRun_21 : decode cX3_beginsRun 21 = .ok (.ifCond .ne 7, 3) := dk_154 0 7 (dk_at dksX3_beginsRun_0 21 rfl rfl)
theorem dX3_beginsRun_24 : decode cX3_beginsRun 24 = .ok (.iconst 1, 1) := dk_4 (dk_at dksX3_beginsRun_1 0 rfl rfl)
theorem dX3_beginsRun_25 : decode cX3_beginsRun 25 = .ok (.goto 4, 3) := dk_167 0 4 (dk_at dksX3_beginsRun_1 1 rfl rfl)
theorem dX3_beginsRun_28 : decode cX3_beginsRun 28 = .ok (.iconst 0, 1) := dk_3 (dk_at dksX3_beginsRun_1 4 rfl rfl)
theorem dX3_beginsRun_29 : decode cX3_beginsRun 29 = .ok (.ireturn, 1) := dk_172 (dk_at dksX3_beginsRun_1 5 rfl rfl)
abbrev cX3_digits : ByteArray := prog_2_method_12_code
def yX3_digits : MethodName := ⟨RX3, "digits", "(I)I"⟩
def dkwX3_digits_1 : List UInt8 := [16, 10, 108, 61, 167, 255, 244, 27, 172]
abbrev dktX3_digits_1 : List UInt8 := dkwX3_digits_1 ++ []
def dkwX3_digits_0 : List UInt8 := [26, 156, 0, 7, 5, 167, 0, 4, 4, 60, 26, 16, 10, 108, 61, 28, 153, 0, 14, 132, 1, 1, 28]
abbrev dktX3_digits_0 : List UInt8 := dkwX3_digits_0 ++ dktX3_digits_1
theorem dksX3_digits_0 : cX3_digits.data.toList.drop 0 = dktX3_digits_0 := by decide +kernel
theorem dksX3_digits_1 : cX3_digits.data.toList.drop 23 = dktX3_digits_1 := dk_seg dksX3_digits_0 23 rfl rfl
theorem dX3_digits_0 : decode cX3_digits 0 = .ok (.iload_n 0, 1) := dk_26 (dk_at dksX3_digits_0 0 rfl rfl)
theorem dX3_digits_1 : decode cX3_digits 1 = .ok (.ifCond .ge 7, 3) := dk_156 0 7 (dk_at dksX3_digits_0 1 rfl rfl)
theorem dX3_digits_4 : decode cX3_digits 4 = .ok (.iconst 2, 1) := dk_5 (dk_at dksX3_digits_0 4 rfl rfl)
theorem dX3_digits_5 : decode cX3_digits 5 = .ok (.goto 4, 3) := dk_167 0 4 (dk_at dksX3_digits_0 5 rfl rfl)
theorem dX3_digits_8 : decode cX3_digits 8 = .ok (.iconst 1, 1) := dk_4 (dk_at dksX3_digits_0 8 rfl rfl)
theorem dX3_digits_9 : decode cX3_digits 9 = .ok (.istore_n 1, 1) := dk_60 (dk_at dksX3_digits_0 9 rfl rfl)
theorem dX3_digits_10 : decode cX3_digits 10 = .ok (.iload_n 0, 1) := dk_26 (dk_at dksX3_digits_0 10 rfl rfl)
theorem dX3_digits_11 : decode cX3_digits 11 = .ok (.bipush 10, 2) := dk_16 10 (dk_at dksX3_digits_0 11 rfl rfl)
theorem dX3_digits_13 : decode cX3_digits 13 = .ok (.idiv, 1) := dk_108 (dk_at dksX3_digits_0 13 rfl rfl)
theorem dX3_digits_14 : decode cX3_digits 14 = .ok (.istore_n 2, 1) := dk_61 (dk_at dksX3_digits_0 14 rfl rfl)
theorem dX3_digits_15 : decode cX3_digits 15 = .ok (.iload_n 2, 1) := dk_28 (dk_at dksX3_digits_0 15 rfl rfl)
theorem dX3_digits_16 : decode cX3_digits 16 = .ok (.ifCond .eq 14, 3) := dk_153 0 14 (dk_at dksX3_digits_0 16 rfl rfl)
theorem dX3_digits_19 : decode cX3_digits 19 = .ok (.iinc 1 1, 3) := dk_132 1 1 (dk_at dksX3_digits_0 19 rfl rfl)
theorem dX3_digits_22 : decode cX3_digits 22 = .ok (.iload_n 2, 1) := dk_28 (dk_at dksX3_digits_0 22 rfl rfl)
theorem dX3_digits_23 : decode cX3_digits 23 = .ok (.bipush 10, 2) := dk_16 10 (dk_at dksX3_digits_1 0 rfl rfl)
theorem dX3_digits_25 : decode cX3_digits 25 = .ok (.idiv, 1) := dk_108 (dk_at dksX3_digits_1 2 rfl rfl)
theorem dX3_digits_26 : decode cX3_digits 26 = .ok (.istore_n 2, 1) := dk_61 (dk_at dksX3_digits_1 3 rfl rfl)
theorem dX3_digits_27 : decode cX3_digits 27 = .ok (.goto (-12), 3) := dk_167 255 244 (dk_at dksX3_digits_1 4 rfl rfl)
theorem dX3_digits_30 : decode cX3_digits 30 = .ok (.iload_n 1, 1) := dk_27 (dk_at dksX3_digits_1 7 rfl rfl)
theorem dX3_digits_31 : decode cX3_digits 31 = .ok (.ireturn, 1) := dk_172 (dk_at dksX3_digits_1 8 rfl rfl)
abbrev cX3_fillBoth : ByteArray := prog_2_method_4_code
def yX3_fillBoth : MethodName := ⟨RX3, "fillBoth", "(Ljava/util/ArrayList;LLogCompactor$Template;LLogCompactor$Template;I)V"⟩
def dkwX3_fillBoth_8 : List UInt8 := [54, 5, 21, 6, 21, 7, 153, 0, 7, 3, 167, 0, 4, 4, 96, 54, 6, 167, 255, 62, 177]
abbrev dktX3_fillBoth_8 : List UInt8 := dkwX3_fillBoth_8 ++ []
def dkwX3_fillBoth_7 : List UInt8 := [83, 42, 89, 180, 0, 33, 4, 96, 181, 0, 33, 21, 5, 21, 7, 153, 0, 7, 4, 167, 0, 4, 3, 96]
abbrev dktX3_fillBoth_7 : List UInt8 := dkwX3_fillBoth_7 ++ dktX3_fillBoth_8
def dkwX3_fillBoth_6 : List UInt8 := [42, 180, 0, 33, 43, 21, 8, 182, 0, 37, 192, 0, 46, 180, 0, 48, 21, 4, 182, 0, 37, 192, 0, 9]
abbrev dktX3_fillBoth_6 : List UInt8 := dkwX3_fillBoth_6 ++ dktX3_fillBoth_7
def dkwX3_fillBoth_5 : List UInt8 := [167, 0, 15, 45, 180, 0, 21, 21, 6, 182, 0, 37, 192, 0, 41, 182, 0, 43, 54, 8, 42, 180, 0, 11]
abbrev dktX3_fillBoth_5 : List UInt8 := dkwX3_fillBoth_5 ++ dktX3_fillBoth_6
def dkwX3_fillBoth_4 : List UInt8 := [167, 0, 4, 3, 54, 7, 21, 7, 153, 0, 18, 44, 180, 0, 21, 21, 5, 182, 0, 37, 192, 0, 41]
abbrev dktX3_fillBoth_4 : List UInt8 := dkwX3_fillBoth_4 ++ dktX3_fillBoth_5
def dkwX3_fillBoth_3 : List UInt8 := [182, 0, 43, 45, 180, 0, 21, 21, 6, 182, 0, 37, 192, 0, 41, 182, 0, 43, 162, 0, 7, 4]
abbrev dktX3_fillBoth_3 : List UInt8 := dkwX3_fillBoth_3 ++ dktX3_fillBoth_4
def dkwX3_fillBoth_2 : List UInt8 := [21, 5, 44, 180, 0, 21, 182, 0, 27, 162, 0, 40, 44, 180, 0, 21, 21, 5, 182, 0, 37, 192, 0, 41]
abbrev dktX3_fillBoth_2 : List UInt8 := dkwX3_fillBoth_2 ++ dktX3_fillBoth_3
def dkwX3_fillBoth_1 : List UInt8 := [21, 6, 45, 180, 0, 21, 182, 0, 27, 162, 0, 176, 21, 6, 45, 180, 0, 21, 182, 0, 27, 159, 0, 48]
abbrev dktX3_fillBoth_1 : List UInt8 := dkwX3_fillBoth_1 ++ dktX3_fillBoth_2
def dkwX3_fillBoth_0 : List UInt8 := [42, 3, 181, 0, 33, 3, 54, 5, 3, 54, 6, 21, 5, 44, 180, 0, 21, 182, 0, 27, 161, 0, 15]
abbrev dktX3_fillBoth_0 : List UInt8 := dkwX3_fillBoth_0 ++ dktX3_fillBoth_1
theorem dksX3_fillBoth_0 : cX3_fillBoth.data.toList.drop 0 = dktX3_fillBoth_0 := by decide +kernel
theorem dksX3_fillBoth_1 : cX3_fillBoth.data.toList.drop 23 = dktX3_fillBoth_1 := dk_seg dksX3_fillBoth_0 23 rfl rfl
theorem dksX3_fillBoth_2 : cX3_fillBoth.data.toList.drop 47 = dktX3_fillBoth_2 := dk_seg dksX3_fillBoth_1 24 rfl rfl
theorem dksX3_fillBoth_3 : cX3_fillBoth.data.toList.drop 71 = dktX3_fillBoth_3 := dk_seg dksX3_fillBoth_2 24 rfl rfl
theorem dksX3_fillBoth_4 : cX3_fillBoth.data.toList.drop 93 = dktX3_fillBoth_4 := dk_seg dksX3_fillBoth_3 22 rfl rfl
theorem dksX3_fillBoth_5 : cX3_fillBoth.data.toList.drop 116 = dktX3_fillBoth_5 := dk_seg dksX3_fillBoth_4 23 rfl rfl
theorem dksX3_fillBoth_6 : cX3_fillBoth.data.toList.drop 140 = dktX3_fillBoth_6 := dk_seg dksX3_fillBoth_5 24 rfl rfl
theorem dksX3_fillBoth_7 : cX3_fillBoth.data.toList.drop 164 = dktX3_fillBoth_7 := dk_seg dksX3_fillBoth_6 24 rfl rfl
theorem dksX3_fillBoth_8 : cX3_fillBoth.data.toList.drop 188 = dktX3_fillBoth_8 := dk_seg dksX3_fillBoth_7 24 rfl rfl
theorem dX3_fillBoth_0 : decode cX3_fillBoth 0 = .ok (.aload_n 0, 1) := dk_42 (dk_at dksX3_fillBoth_0 0 rfl rfl)
theorem dX3_fillBoth_1 : decode cX3_fillBoth 1 = .ok (.iconst 0, 1) := dk_3 (dk_at dksX3_fillBoth_0 1 rfl rfl)
theorem dX3_fillBoth_2 : decode cX3_fillBoth 2 = .ok (.putfield 33, 3) := dk_181 0 33 (dk_at dksX3_fillBoth_0 2 rfl rfl)
theorem dX3_fillBoth_5 : decode cX3_fillBoth 5 = .ok (.iconst 0, 1) := dk_3 (dk_at dksX3_fillBoth_0 5 rfl rfl)
theorem dX3_fillBoth_6 : decode cX3_fillBoth 6 = .ok (.istore 5, 2) := dk_54 5 (dk_at dksX3_fillBoth_0 6 rfl rfl)
theorem dX3_fillBoth_8 : decode cX3_fillBoth 8 = .ok (.iconst 0, 1) := dk_3 (dk_at dksX3_fillBoth_0 8 rfl rfl)
theorem dX3_fillBoth_9 : decode cX3_fillBoth 9 = .ok (.istore 6, 2) := dk_54 6 (dk_at dksX3_fillBoth_0 9 rfl rfl)
theorem dX3_fillBoth_11 : decode cX3_fillBoth 11 = .ok (.iload 5, 2) := dk_21 5 (dk_at dksX3_fillBoth_0 11 rfl rfl)
theorem dX3_fillBoth_13 : decode cX3_fillBoth 13 = .ok (.aload_n 2, 1) := dk_44 (dk_at dksX3_fillBoth_0 13 rfl rfl)
theorem dX3_fillBoth_14 : decode cX3_fillBoth 14 = .ok (.getfield 21, 3) := dk_180 0 21 (dk_at dksX3_fillBoth_0 14 rfl rfl)
theorem dX3_fillBoth_17 : decode cX3_fillBoth 17 = .ok (.invokevirtual 27, 3) := dk_182 0 27 (dk_at dksX3_fillBoth_0 17 rfl rfl)
theorem dX3_fillBoth_20 : decode cX3_fillBoth 20 = .ok (.if_icmp .lt 15, 3) := dk_161 0 15 (dk_at dksX3_fillBoth_0 20 rfl rfl)
theorem dX3_fillBoth_23 : decode cX3_fillBoth 23 = .ok (.iload 6, 2) := dk_21 6 (dk_at dksX3_fillBoth_1 0 rfl rfl)
theorem dX3_fillBoth_25 : decode cX3_fillBoth 25 = .ok (.aload_n 3, 1) := dk_45 (dk_at dksX3_fillBoth_1 2 rfl rfl)
theorem dX3_fillBoth_26 : decode cX3_fillBoth 26 = .ok (.getfield 21, 3) := dk_180 0 21 (dk_at dksX3_fillBoth_1 3 rfl rfl)
theorem dX3_fillBoth_29 : decode cX3_fillBoth 29 = .ok (.invokevirtual 27, 3) := dk_182 0 27 (dk_at dksX3_fillBoth_1 6 rfl rfl)
theorem dX3_fillBoth_32 : decode cX3_fillBoth 32 = .ok (.if_icmp .ge 176, 3) := dk_162 0 176 (dk_at dksX3_fillBoth_1 9 rfl rfl)
theorem dX3_fillBoth_35 : decode cX3_fillBoth 35 = .ok (.iload 6, 2) := dk_21 6 (dk_at dksX3_fillBoth_1 12 rfl rfl)
theorem dX3_fillBoth_37 : decode cX3_fillBoth 37 = .ok (.aload_n 3, 1) := dk_45 (dk_at dksX3_fillBoth_1 14 rfl rfl)
theorem dX3_fillBoth_38 : decode cX3_fillBoth 38 = .ok (.getfield 21, 3) := dk_180 0 21 (dk_at dksX3_fillBoth_1 15 rfl rfl)
theorem dX3_fillBoth_41 : decode cX3_fillBoth 41 = .ok (.invokevirtual 27, 3) := dk_182 0 27 (dk_at dksX3_fillBoth_1 18 rfl rfl)
theorem dX3_fillBoth_44 : decode cX3_fillBoth 44 = .ok (.if_icmp .eq 48, 3) := dk_159 0 48 (dk_at dksX3_fillBoth_1 21 rfl rfl)
theorem dX3_fillBoth_47 : decode cX3_fillBoth 47 = .ok (.iload 5, 2) := dk_21 5 (dk_at dksX3_fillBoth_2 0 rfl rfl)
theorem dX3_fillBoth_49 : decode cX3_fillBoth 49 = .ok (.aload_n 2, 1) := dk_44 (dk_at dksX3_fillBoth_2 2 rfl rfl)
theorem dX3_fillBoth_50 : decode cX3_fillBoth 50 = .ok (.getfield 21, 3) := dk_180 0 21 (dk_at dksX3_fillBoth_2 3 rfl rfl)
theorem dX3_fillBoth_53 : decode cX3_fillBoth 53 = .ok (.invokevirtual 27, 3) := dk_182 0 27 (dk_at dksX3_fillBoth_2 6 rfl rfl)
theorem dX3_fillBoth_56 : decode cX3_fillBoth 56 = .ok (.if_icmp .ge 40, 3) := dk_162 0 40 (dk_at dksX3_fillBoth_2 9 rfl rfl)
theorem dX3_fillBoth_59 : decode cX3_fillBoth 59 = .ok (.aload_n 2, 1) := dk_44 (dk_at dksX3_fillBoth_2 12 rfl rfl)
theorem dX3_fillBoth_60 : decode cX3_fillBoth 60 = .ok (.getfield 21, 3) := dk_180 0 21 (dk_at dksX3_fillBoth_2 13 rfl rfl)
theorem dX3_fillBoth_63 : decode cX3_fillBoth 63 = .ok (.iload 5, 2) := dk_21 5 (dk_at dksX3_fillBoth_2 16 rfl rfl)
theorem dX3_fillBoth_65 : decode cX3_fillBoth 65 = .ok (.invokevirtual 37, 3) := dk_182 0 37 (dk_at dksX3_fillBoth_2 18 rfl rfl)
theorem dX3_fillBoth_68 : decode cX3_fillBoth 68 = .ok (.checkcast 41, 3) := dk_192 0 41 (dk_at dksX3_fillBoth_2 21 rfl rfl)
theorem dX3_fillBoth_71 : decode cX3_fillBoth 71 = .ok (.invokevirtual 43, 3) := dk_182 0 43 (dk_at dksX3_fillBoth_3 0 rfl rfl)
theorem dX3_fillBoth_74 : decode cX3_fillBoth 74 = .ok (.aload_n 3, 1) := dk_45 (dk_at dksX3_fillBoth_3 3 rfl rfl)
theorem dX3_fillBoth_75 : decode cX3_fillBoth 75 = .ok (.getfield 21, 3) := dk_180 0 21 (dk_at dksX3_fillBoth_3 4 rfl rfl)
theorem dX3_fillBoth_78 : decode cX3_fillBoth 78 = .ok (.iload 6, 2) := dk_21 6 (dk_at dksX3_fillBoth_3 7 rfl rfl)
theorem dX3_fillBoth_80 : decode cX3_fillBoth 80 = .ok (.invokevirtual 37, 3) := dk_182 0 37 (dk_at dksX3_fillBoth_3 9 rfl rfl)
theorem dX3_fillBoth_83 : decode cX3_fillBoth 83 = .ok (.checkcast 41, 3) := dk_192 0 41 (dk_at dksX3_fillBoth_3 12 rfl rfl)
theorem dX3_fillBoth_86 : decode cX3_fillBoth 86 = .ok (.invokevirtual 43, 3) := dk_182 0 43 (dk_at dksX3_fillBoth_3 15 rfl rfl)
theorem dX3_fillBoth_89 : decode cX3_fillBoth 89 = .ok (.if_icmp .ge 7, 3) := dk_162 0 7 (dk_at dksX3_fillBoth_3 18 rfl rfl)
theorem dX3_fillBoth_92 : decode cX3_fillBoth 92 = .ok (.iconst 1, 1) := dk_4 (dk_at dksX3_fillBoth_3 21 rfl rfl)
theorem dX3_fillBoth_93 : decode cX3_fillBoth 93 = .ok (.goto 4, 3) := dk_167 0 4 (dk_at dksX3_fillBoth_4 0 rfl rfl)
theorem dX3_fillBoth_96 : decode cX3_fillBoth 96 = .ok (.iconst 0, 1) := dk_3 (dk_at dksX3_fillBoth_4 3 rfl rfl)
theorem dX3_fillBoth_97 : decode cX3_fillBoth 97 = .ok (.istore 7, 2) := dk_54 7 (dk_at dksX3_fillBoth_4 4 rfl rfl)
theorem dX3_fillBoth_99 : decode cX3_fillBoth 99 = .ok (.iload 7, 2) := dk_21 7 (dk_at dksX3_fillBoth_4 6 rfl rfl)
theorem dX3_fillBoth_101 : decode cX3_fillBoth 101 = .ok (.ifCond .eq 18, 3) := dk_153 0 18 (dk_at dksX3_fillBoth_4 8 rfl rfl)
theorem dX3_fillBoth_104 : decode cX3_fillBoth 104 = .ok (.aload_n 2, 1) := dk_44 (dk_at dksX3_fillBoth_4 11 rfl rfl)
theorem dX3_fillBoth_105 : decode cX3_fillBoth 105 = .ok (.getfield 21, 3) := dk_180 0 21 (dk_at dksX3_fillBoth_4 12 rfl rfl)
theorem dX3_fillBoth_108 : decode cX3_fillBoth 108 = .ok (.iload 5, 2) := dk_21 5 (dk_at dksX3_fillBoth_4 15 rfl rfl)
theorem dX3_fillBoth_110 : decode cX3_fillBoth 110 = .ok (.invokevirtual 37, 3) := dk_182 0 37 (dk_at dksX3_fillBoth_4 17 rfl rfl)
theorem dX3_fillBoth_113 : decode cX3_fillBoth 113 = .ok (.checkcast 41, 3) := dk_192 0 41 (dk_at dksX3_fillBoth_4 20 rfl rfl)
theorem dX3_fillBoth_116 : decode cX3_fillBoth 116 = .ok (.goto 15, 3) := dk_167 0 15 (dk_at dksX3_fillBoth_5 0 rfl rfl)
theorem dX3_fillBoth_119 : decode cX3_fillBoth 119 = .ok (.aload_n 3, 1) := dk_45 (dk_at dksX3_fillBoth_5 3 rfl rfl)
theorem dX3_fillBoth_120 : decode cX3_fillBoth 120 = .ok (.getfield 21, 3) := dk_180 0 21 (dk_at dksX3_fillBoth_5 4 rfl rfl)
theorem dX3_fillBoth_123 : decode cX3_fillBoth 123 = .ok (.iload 6, 2) := dk_21 6 (dk_at dksX3_fillBoth_5 7 rfl rfl)
theorem dX3_fillBoth_125 : decode cX3_fillBoth 125 = .ok (.invokevirtual 37, 3) := dk_182 0 37 (dk_at dksX3_fillBoth_5 9 rfl rfl)
theorem dX3_fillBoth_128 : decode cX3_fillBoth 128 = .ok (.checkcast 41, 3) := dk_192 0 41 (dk_at dksX3_fillBoth_5 12 rfl rfl)
theorem dX3_fillBoth_131 : decode cX3_fillBoth 131 = .ok (.invokevirtual 43, 3) := dk_182 0 43 (dk_at dksX3_fillBoth_5 15 rfl rfl)
theorem dX3_fillBoth_134 : decode cX3_fillBoth 134 = .ok (.istore 8, 2) := dk_54 8 (dk_at dksX3_fillBoth_5 18 rfl rfl)
theorem dX3_fillBoth_136 : decode cX3_fillBoth 136 = .ok (.aload_n 0, 1) := dk_42 (dk_at dksX3_fillBoth_5 20 rfl rfl)
theorem dX3_fillBoth_137 : decode cX3_fillBoth 137 = .ok (.getfield 11, 3) := dk_180 0 11 (dk_at dksX3_fillBoth_5 21 rfl rfl)
theorem dX3_fillBoth_140 : decode cX3_fillBoth 140 = .ok (.aload_n 0, 1) := dk_42 (dk_at dksX3_fillBoth_6 0 rfl rfl)
theorem dX3_fillBoth_141 : decode cX3_fillBoth 141 = .ok (.getfield 33, 3) := dk_180 0 33 (dk_at dksX3_fillBoth_6 1 rfl rfl)
theorem dX3_fillBoth_144 : decode cX3_fillBoth 144 = .ok (.aload_n 1, 1) := dk_43 (dk_at dksX3_fillBoth_6 4 rfl rfl)
theorem dX3_fillBoth_145 : decode cX3_fillBoth 145 = .ok (.iload 8, 2) := dk_21 8 (dk_at dksX3_fillBoth_6 5 rfl rfl)
theorem dX3_fillBoth_147 : decode cX3_fillBoth 147 = .ok (.invokevirtual 37, 3) := dk_182 0 37 (dk_at dksX3_fillBoth_6 7 rfl rfl)
theorem dX3_fillBoth_150 : decode cX3_fillBoth 150 = .ok (.checkcast 46, 3) := dk_192 0 46 (dk_at dksX3_fillBoth_6 10 rfl rfl)
theorem dX3_fillBoth_153 : decode cX3_fillBoth 153 = .ok (.getfield 48, 3) := dk_180 0 48 (dk_at dksX3_fillBoth_6 13 rfl rfl)
theorem dX3_fillBoth_156 : decode cX3_fillBoth 156 = .ok (.iload 4, 2) := dk_21 4 (dk_at dksX3_fillBoth_6 16 rfl rfl)
theorem dX3_fillBoth_158 : decode cX3_fillBoth 158 = .ok (.invokevirtual 37, 3) := dk_182 0 37 (dk_at dksX3_fillBoth_6 18 rfl rfl)
theorem dX3_fillBoth_161 : decode cX3_fillBoth 161 = .ok (.checkcast 9, 3) := dk_192 0 9 (dk_at dksX3_fillBoth_6 21 rfl rfl)
theorem dX3_fillBoth_164 : decode cX3_fillBoth 164 = .ok (.aastore, 1) := dk_83 (dk_at dksX3_fillBoth_7 0 rfl rfl)
theorem dX3_fillBoth_165 : decode cX3_fillBoth 165 = .ok (.aload_n 0, 1) := dk_42 (dk_at dksX3_fillBoth_7 1 rfl rfl)
theorem dX3_fillBoth_166 : decode cX3_fillBoth 166 = .ok (.dup, 1) := dk_89 (dk_at dksX3_fillBoth_7 2 rfl rfl)
theorem dX3_fillBoth_167 : decode cX3_fillBoth 167 = .ok (.getfield 33, 3) := dk_180 0 33 (dk_at dksX3_fillBoth_7 3 rfl rfl)
theorem dX3_fillBoth_170 : decode cX3_fillBoth 170 = .ok (.iconst 1, 1) := dk_4 (dk_at dksX3_fillBoth_7 6 rfl rfl)
theorem dX3_fillBoth_171 : decode cX3_fillBoth 171 = .ok (.iadd, 1) := dk_96 (dk_at dksX3_fillBoth_7 7 rfl rfl)
theorem dX3_fillBoth_172 : decode cX3_fillBoth 172 = .ok (.putfield 33, 3) := dk_181 0 33 (dk_at dksX3_fillBoth_7 8 rfl rfl)
theorem dX3_fillBoth_175 : decode cX3_fillBoth 175 = .ok (.iload 5, 2) := dk_21 5 (dk_at dksX3_fillBoth_7 11 rfl rfl)
theorem dX3_fillBoth_177 : decode cX3_fillBoth 177 = .ok (.iload 7, 2) := dk_21 7 (dk_at dksX3_fillBoth_7 13 rfl rfl)
theorem dX3_fillBoth_179 : decode cX3_fillBoth 179 = .ok (.ifCond .eq 7, 3) := dk_153 0 7 (dk_at dksX3_fillBoth_7 15 rfl rfl)
theorem dX3_fillBoth_182 : decode cX3_fillBoth 182 = .ok (.iconst 1, 1) := dk_4 (dk_at dksX3_fillBoth_7 18 rfl rfl)
theorem dX3_fillBoth_183 : decode cX3_fillBoth 183 = .ok (.goto 4, 3) := dk_167 0 4 (dk_at dksX3_fillBoth_7 19 rfl rfl)
theorem dX3_fillBoth_186 : decode cX3_fillBoth 186 = .ok (.iconst 0, 1) := dk_3 (dk_at dksX3_fillBoth_7 22 rfl rfl)
theorem dX3_fillBoth_187 : decode cX3_fillBoth 187 = .ok (.iadd, 1) := dk_96 (dk_at dksX3_fillBoth_7 23 rfl rfl)
theorem dX3_fillBoth_188 : decode cX3_fillBoth 188 = .ok (.istore 5, 2) := dk_54 5 (dk_at dksX3_fillBoth_8 0 rfl rfl)
theorem dX3_fillBoth_190 : decode cX3_fillBoth 190 = .ok (.iload 6, 2) := dk_21 6 (dk_at dksX3_fillBoth_8 2 rfl rfl)
theorem dX3_fillBoth_192 : decode cX3_fillBoth 192 = .ok (.iload 7, 2) := dk_21 7 (dk_at dksX3_fillBoth_8 4 rfl rfl)
theorem dX3_fillBoth_194 : decode cX3_fillBoth 194 = .ok (.ifCond .eq 7, 3) := dk_153 0 7 (dk_at dksX3_fillBoth_8 6 rfl rfl)
theorem dX3_fillBoth_197 : decode cX3_fillBoth 197 = .ok (.iconst 0, 1) := dk_3 (dk_at dksX3_fillBoth_8 9 rfl rfl)
theorem dX3_fillBoth_198 : decode cX3_fillBoth 198 = .ok (.goto 4, 3) := dk_167 0 4 (dk_at dksX3_fillBoth_8 10 rfl rfl)
theorem dX3_fillBoth_201 : decode cX3_fillBoth 201 = .ok (.iconst 1, 1) := dk_4 (dk_at dksX3_fillBoth_8 13 rfl rfl)
theorem dX3_fillBoth_202 : decode cX3_fillBoth 202 = .ok (.iadd, 1) := dk_96 (dk_at dksX3_fillBoth_8 14 rfl rfl)
theorem dX3_fillBoth_203 : decode cX3_fillBoth 203 = .ok (.istore 6, 2) := dk_54 6 (dk_at dksX3_fillBoth_8 15 rfl rfl)
theorem dX3_fillBoth_205 : decode cX3_fillBoth 205 = .ok (.goto (-194), 3) := dk_167 255 62 (dk_at dksX3_fillBoth_8 17 rfl rfl)
theorem dX3_fillBoth_208 : decode cX3_fillBoth 208 = .ok (.return_, 1) := dk_177 (dk_at dksX3_fillBoth_8 20 rfl rfl)
abbrev cX3_init_2 : ByteArray := prog_2_method_2_code
def yX3_init_2 : MethodName := ⟨RX3, "<init>", "(Ljava/util/ArrayList;LLogCompactor$Template;I)V"⟩
def dkwX3_init_2_0 : List UInt8 := [42, 183, 0, 3, 42, 16, 40, 189, 0, 9, 181, 0, 11, 42, 43, 44, 29, 182, 0, 17, 177]
abbrev dktX3_init_2_0 : List UInt8 := dkwX3_init_2_0 ++ []
theorem dksX3_init_2_0 : cX3_init_2.data.toList.drop 0 = dktX3_init_2_0 := by decide +kernel
theorem dX3_init_2_0 : decode cX3_init_2 0 = .ok (.aload_n 0, 1) := dk_42 (dk_at dksX3_init_2_0 0 rfl rfl)
theorem dX3_init_2_1 : decode cX3_init_2 1 = .ok (.invokespecial 3, 3) := dk_183 0 3 (dk_at dksX3_init_2_0 1 rfl rfl)
theorem dX3_init_2_4 : decode cX3_init_2 4 = .ok (.aload_n 0, 1) := dk_42 (dk_at dksX3_init_2_0 4 rfl rfl)
theorem dX3_init_2_5 : decode cX3_init_2 5 = .ok (.bipush 40, 2) := dk_16 40 (dk_at dksX3_init_2_0 5 rfl rfl)
theorem dX3_init_2_7 : decode cX3_init_2 7 = .ok (.anewarray 9, 3) := dk_189 0 9 (dk_at dksX3_init_2_0 7 rfl rfl)
theorem dX3_init_2_10 : decode cX3_init_2 10 = .ok (.putfield 11, 3) := dk_181 0 11 (dk_at dksX3_init_2_0 10 rfl rfl)
theorem dX3_init_2_13 : decode cX3_init_2 13 = .ok (.aload_n 0, 1) := dk_42 (dk_at dksX3_init_2_0 13 rfl rfl)
theorem dX3_init_2_14 : decode cX3_init_2 14 = .ok (.aload_n 1, 1) := dk_43 (dk_at dksX3_init_2_0 14 rfl rfl)
theorem dX3_init_2_15 : decode cX3_init_2 15 = .ok (.aload_n 2, 1) := dk_44 (dk_at dksX3_init_2_0 15 rfl rfl)
theorem dX3_init_2_16 : decode cX3_init_2 16 = .ok (.iload_n 3, 1) := dk_29 (dk_at dksX3_init_2_0 16 rfl rfl)
theorem dX3_init_2_17 : decode cX3_init_2 17 = .ok (.invokevirtual 17, 3) := dk_182 0 17 (dk_at dksX3_init_2_0 17 rfl rfl)
theorem dX3_init_2_20 : decode cX3_init_2 20 = .ok (.return_, 1) := dk_177 (dk_at dksX3_init_2_0 20 rfl rfl)
abbrev cX3_different : ByteArray := prog_2_method_8_code
def yX3_different : MethodName := ⟨RX3, "different", "()I"⟩
def dkwX3_different_1 : List UInt8 := [167, 0, 4, 3, 96, 60, 132, 2, 1, 167, 255, 229, 27, 172]
abbrev dktX3_different_1 : List UInt8 := dkwX3_different_1 ++ []
def dkwX3_different_0 : List UInt8 := [3, 60, 3, 61, 28, 42, 180, 0, 33, 162, 0, 25, 27, 42, 28, 182, 0, 58, 153, 0, 7, 4]
abbrev dktX3_different_0 : List UInt8 := dkwX3_different_0 ++ dktX3_different_1
theorem dksX3_different_0 : cX3_different.data.toList.drop 0 = dktX3_different_0 := by decide +kernel
theorem dksX3_different_1 : cX3_different.data.toList.drop 22 = dktX3_different_1 := dk_seg dksX3_different_0 22 rfl rfl
theorem dX3_different_0 : decode cX3_different 0 = .ok (.iconst 0, 1) := dk_3 (dk_at dksX3_different_0 0 rfl rfl)
theorem dX3_different_1 : decode cX3_different 1 = .ok (.istore_n 1, 1) := dk_60 (dk_at dksX3_different_0 1 rfl rfl)
theorem dX3_different_2 : decode cX3_different 2 = .ok (.iconst 0, 1) := dk_3 (dk_at dksX3_different_0 2 rfl rfl)
theorem dX3_different_3 : decode cX3_different 3 = .ok (.istore_n 2, 1) := dk_61 (dk_at dksX3_different_0 3 rfl rfl)
theorem dX3_different_4 : decode cX3_different 4 = .ok (.iload_n 2, 1) := dk_28 (dk_at dksX3_different_0 4 rfl rfl)
theorem dX3_different_5 : decode cX3_different 5 = .ok (.aload_n 0, 1) := dk_42 (dk_at dksX3_different_0 5 rfl rfl)
theorem dX3_different_6 : decode cX3_different 6 = .ok (.getfield 33, 3) := dk_180 0 33 (dk_at dksX3_different_0 6 rfl rfl)
theorem dX3_different_9 : decode cX3_different 9 = .ok (.if_icmp .ge 25, 3) := dk_162 0 25 (dk_at dksX3_different_0 9 rfl rfl)
theorem dX3_different_12 : decode cX3_different 12 = .ok (.iload_n 1, 1) := dk_27 (dk_at dksX3_different_0 12 rfl rfl)
theorem dX3_different_13 : decode cX3_different 13 = .ok (.aload_n 0, 1) := dk_42 (dk_at dksX3_different_0 13 rfl rfl)
theorem dX3_different_14 : decode cX3_different 14 = .ok (.iload_n 2, 1) := dk_28 (dk_at dksX3_different_0 14 rfl rfl)
theorem dX3_different_15 : decode cX3_different 15 = .ok (.invokevirtual 58, 3) := dk_182 0 58 (dk_at dksX3_different_0 15 rfl rfl)
theorem dX3_different_18 : decode cX3_different 18 = .ok (.ifCond .eq 7, 3) := dk_153 0 7 (dk_at dksX3_different_0 18 rfl rfl)
theorem dX3_different_21 : decode cX3_different 21 = .ok (.iconst 1, 1) := dk_4 (dk_at dksX3_different_0 21 rfl rfl)
theorem dX3_different_22 : decode cX3_different 22 = .ok (.goto 4, 3) := dk_167 0 4 (dk_at dksX3_different_1 0 rfl rfl)
theorem dX3_different_25 : decode cX3_different 25 = .ok (.iconst 0, 1) := dk_3 (dk_at dksX3_different_1 3 rfl rfl)
theorem dX3_different_26 : decode cX3_different 26 = .ok (.iadd, 1) := dk_96 (dk_at dksX3_different_1 4 rfl rfl)
theorem dX3_different_27 : decode cX3_different 27 = .ok (.istore_n 1, 1) := dk_60 (dk_at dksX3_different_1 5 rfl rfl)
theorem dX3_different_28 : decode cX3_different 28 = .ok (.iinc 2 1, 3) := dk_132 2 1 (dk_at dksX3_different_1 6 rfl rfl)
theorem dX3_different_31 : decode cX3_different 31 = .ok (.goto (-27), 3) := dk_167 255 229 (dk_at dksX3_different_1 9 rfl rfl)
theorem dX3_different_34 : decode cX3_different 34 = .ok (.iload_n 1, 1) := dk_27 (dk_at dksX3_different_1 12 rfl rfl)
theorem dX3_different_35 : decode cX3_different 35 = .ok (.ireturn, 1) := dk_172 (dk_at dksX3_different_1 13 rfl rfl)
abbrev cX3_runs : ByteArray := prog_2_method_10_code
def yX3_runs : MethodName := ⟨RX3, "runs", "()I"⟩
def dkwX3_runs_1 : List UInt8 := [167, 0, 4, 3, 96, 60, 132, 2, 1, 167, 255, 229, 27, 172]
abbrev dktX3_runs_1 : List UInt8 := dkwX3_runs_1 ++ []
def dkwX3_runs_0 : List UInt8 := [3, 60, 3, 61, 28, 42, 180, 0, 33, 162, 0, 25, 27, 42, 28, 182, 0, 62, 153, 0, 7, 4]
abbrev dktX3_runs_0 : List UInt8 := dkwX3_runs_0 ++ dktX3_runs_1
theorem dksX3_runs_0 : cX3_runs.data.toList.drop 0 = dktX3_runs_0 := by decide +kernel
theorem dksX3_runs_1 : cX3_runs.data.toList.drop 22 = dktX3_runs_1 := dk_seg dksX3_runs_0 22 rfl rfl
theorem dX3_runs_0 : decode cX3_runs 0 = .ok (.iconst 0, 1) := dk_3 (dk_at dksX3_runs_0 0 rfl rfl)
theorem dX3_runs_1 : decode cX3_runs 1 = .ok (.istore_n 1, 1) := dk_60 (dk_at dksX3_runs_0 1 rfl rfl)
theorem dX3_runs_2 : decode cX3_runs 2 = .ok (.iconst 0, 1) := dk_3 (dk_at dksX3_runs_0 2 rfl rfl)
theorem dX3_runs_3 : decode cX3_runs 3 = .ok (.istore_n 2, 1) := dk_61 (dk_at dksX3_runs_0 3 rfl rfl)
theorem dX3_runs_4 : decode cX3_runs 4 = .ok (.iload_n 2, 1) := dk_28 (dk_at dksX3_runs_0 4 rfl rfl)
theorem dX3_runs_5 : decode cX3_runs 5 = .ok (.aload_n 0, 1) := dk_42 (dk_at dksX3_runs_0 5 rfl rfl)
theorem dX3_runs_6 : decode cX3_runs 6 = .ok (.getfield 33, 3) := dk_180 0 33 (dk_at dksX3_runs_0 6 rfl rfl)
theorem dX3_runs_9 : decode cX3_runs 9 = .ok (.if_icmp .ge 25, 3) := dk_162 0 25 (dk_at dksX3_runs_0 9 rfl rfl)
theorem dX3_runs_12 : decode cX3_runs 12 = .ok (.iload_n 1, 1) := dk_27 (dk_at dksX3_runs_0 12 rfl rfl)
theorem dX3_runs_13 : decode cX3_runs 13 = .ok (.aload_n 0, 1) := dk_42 (dk_at dksX3_runs_0 13 rfl rfl)
theorem dX3_runs_14 : decode cX3_runs 14 = .ok (.iload_n 2, 1) := dk_28 (dk_at dksX3_runs_0 14 rfl rfl)
theorem dX3_runs_15 : decode cX3_runs 15 = .ok (.invokevirtual 62, 3) := dk_182 0 62 (dk_at dksX3_runs_0 15 rfl rfl)
theorem dX3_runs_18 : decode cX3_runs 18 = .ok (.ifCond .eq 7, 3) := dk_153 0 7 (dk_at dksX3_runs_0 18 rfl rfl)
theorem dX3_runs_21 : decode cX3_runs 21 = .ok (.iconst 1, 1) := dk_4 (dk_at dksX3_runs_0 21 rfl rfl)
theorem dX3_runs_22 : decode cX3_runs 22 = .ok (.goto 4, 3) := dk_167 0 4 (dk_at dksX3_runs_1 0 rfl rfl)
theorem dX3_runs_25 : decode cX3_runs 25 = .ok (.iconst 0, 1) := dk_3 (dk_at dksX3_runs_1 3 rfl rfl)
theorem dX3_runs_26 : decode cX3_runs 26 = .ok (.iadd, 1) := dk_96 (dk_at dksX3_runs_1 4 rfl rfl)
theorem dX3_runs_27 : decode cX3_runs 27 = .ok (.istore_n 1, 1) := dk_60 (dk_at dksX3_runs_1 5 rfl rfl)
theorem dX3_runs_28 : decode cX3_runs 28 = .ok (.iinc 2 1, 3) := dk_132 2 1 (dk_at dksX3_runs_1 6 rfl rfl)
theorem dX3_runs_31 : decode cX3_runs 31 = .ok (.goto (-27), 3) := dk_167 255 229 (dk_at dksX3_runs_1 9 rfl rfl)
theorem dX3_runs_34 : decode cX3_runs 34 = .ok (.iload_n 1, 1) := dk_27 (dk_at dksX3_runs_1 12 rfl rfl)
theorem dX3_runs_35 : decode cX3_runs 35 = .ok (.ireturn, 1) := dk_172 (dk_at dksX3_runs_1 13 rfl rfl)
abbrev cX3_code : ByteArray := prog_2_method_7_code
def yX3_code : MethodName := ⟨RX3, "code", "(I)I"⟩
def dkwX3_code_1 : List UInt8 := [167, 0, 4, 3, 96, 61, 132, 3, 1, 167, 255, 228, 28, 172]
abbrev dktX3_code_1 : List UInt8 := dkwX3_code_1 ++ []
def dkwX3_code_0 : List UInt8 := [3, 61, 3, 62, 29, 42, 27, 182, 0, 50, 162, 0, 25, 28, 42, 29, 182, 0, 58, 153, 0, 7, 4]
abbrev dktX3_code_0 : List UInt8 := dkwX3_code_0 ++ dktX3_code_1
theorem dksX3_code_0 : cX3_code.data.toList.drop 0 = dktX3_code_0 := by decide +kernel
theorem dksX3_code_1 : cX3_code.data.toList.drop 23 = dktX3_code_1 := dk_seg dksX3_code_0 23 rfl rfl
theorem dX3_code_0 : decode cX3_code 0 = .ok (.iconst 0, 1) := dk_3 (dk_at dksX3_code_0 0 rfl rfl)
theorem dX3_code_1 : decode cX3_code 1 = .ok (.istore_n 2, 1) := dk_61 (dk_at dksX3_code_0 1 rfl rfl)
theorem dX3_code_2 : decode cX3_code 2 = .ok (.iconst 0, 1) := dk_3 (dk_at dksX3_code_0 2 rfl rfl)
theorem dX3_code_3 : decode cX3_code 3 = .ok (.istore_n 3, 1) := dk_62 (dk_at dksX3_code_0 3 rfl rfl)
theorem dX3_code_4 : decode cX3_code 4 = .ok (.iload_n 3, 1) := dk_29 (dk_at dksX3_code_0 4 rfl rfl)
theorem dX3_code_5 : decode cX3_code 5 = .ok (.aload_n 0, 1) := dk_42 (dk_at dksX3_code_0 5 rfl rfl)
theorem dX3_code_6 : decode cX3_code 6 = .ok (.iload_n 1, 1) := dk_27 (dk_at dksX3_code_0 6 rfl rfl)
theorem dX3_code_7 : decode cX3_code 7 = .ok (.invokevirtual 50, 3) := dk_182 0 50 (dk_at dksX3_code_0 7 rfl rfl)
theorem dX3_code_10 : decode cX3_code 10 = .ok (.if_icmp .ge 25, 3) := dk_162 0 25 (dk_at dksX3_code_0 10 rfl rfl)
theorem dX3_code_13 : decode cX3_code 13 = .ok (.iload_n 2, 1) := dk_28 (dk_at dksX3_code_0 13 rfl rfl)
theorem dX3_code_14 : decode cX3_code 14 = .ok (.aload_n 0, 1) := dk_42 (dk_at dksX3_code_0 14 rfl rfl)
theorem dX3_code_15 : decode cX3_code 15 = .ok (.iload_n 3, 1) := dk_29 (dk_at dksX3_code_0 15 rfl rfl)
theorem dX3_code_16 : decode cX3_code 16 = .ok (.invokevirtual 58, 3) := dk_182 0 58 (dk_at dksX3_code_0 16 rfl rfl)
theorem dX3_code_19 : decode cX3_code 19 = .ok (.ifCond .eq 7, 3) := dk_153 0 7 (dk_at dksX3_code_0 19 rfl rfl)
theorem dX3_code_22 : decode cX3_code 22 = .ok (.iconst 1, 1) := dk_4 (dk_at dksX3_code_0 22 rfl rfl)
theorem dX3_code_23 : decode cX3_code 23 = .ok (.goto 4, 3) := dk_167 0 4 (dk_at dksX3_code_1 0 rfl rfl)
theorem dX3_code_26 : decode cX3_code 26 = .ok (.iconst 0, 1) := dk_3 (dk_at dksX3_code_1 3 rfl rfl)
theorem dX3_code_27 : decode cX3_code 27 = .ok (.iadd, 1) := dk_96 (dk_at dksX3_code_1 4 rfl rfl)
theorem dX3_code_28 : decode cX3_code 28 = .ok (.istore_n 2, 1) := dk_61 (dk_at dksX3_code_1 5 rfl rfl)
theorem dX3_code_29 : decode cX3_code 29 = .ok (.iinc 3 1, 3) := dk_132 3 1 (dk_at dksX3_code_1 6 rfl rfl)
theorem dX3_code_32 : decode cX3_code 32 = .ok (.goto (-28), 3) := dk_167 255 228 (dk_at dksX3_code_1 9 rfl rfl)
theorem dX3_code_35 : decode cX3_code 35 = .ok (.iload_n 2, 1) := dk_28 (dk_at dksX3_code_1 12 rfl rfl)
theorem dX3_code_36 : decode cX3_code 36 = .ok (.ireturn, 1) := dk_172 (dk_at dksX3_code_1 13 rfl rfl)
theorem q102 : (Jvm.Cond.initialized "LogCompactor$Column") ∈ lw_all := lw_g (lw_at lw_m1 6 rfl) rfl
theorem q187 : (Jvm.Cond.instantiable "LogCompactor$Column" (2 : Nat)) ∈ lw_all := lw_g (lw_at lw_m1 91 rfl) rfl
theorem q189 : (Jvm.Cond.instanceMethod ({ cls := "LogCompactor$Column", name := "<init>", desc := "()V" } : Jvm.MethodName)) ∈ lw_all := lw_g (lw_at lw_m1 93 rfl) rfl
theorem q190 : (Jvm.Cond.code ({ cls := "LogCompactor$Column", name := "<init>", desc := "()V" } : Jvm.MethodName) prog_2_method_1_code (1 : Nat) (Option.none : Option Jvm.ClassFile.FieldType)) ∈ lw_all := lw_g (lw_at lw_m1 94 rfl) rfl
theorem q191 : (Jvm.Cond.methodLink "LogCompactor$Column" (3 : Nat) ({ cls := "java/lang/Object", name := "<init>", desc := "()V" } : Jvm.MethodName)) ∈ lw_all := lw_g (lw_at lw_m1 95 rfl) rfl
theorem q192 : (Jvm.Cond.classLink "LogCompactor$Column" (9 : Nat) "LogCompactor$Token") ∈ lw_all := lw_g (lw_at lw_m1 96 rfl) rfl
theorem q194 : (Jvm.Cond.fieldLink "LogCompactor$Column" (11 : Nat) "LogCompactor$Column" "tokens" "[LLogCompactor$Token;") ∈ lw_all := lw_g (lw_at lw_m1 98 rfl) rfl
theorem q196 : (Jvm.Cond.fieldLink "LogCompactor$Column" (33 : Nat) "LogCompactor$Column" "count" "I") ∈ lw_all := lw_g (lw_at lw_m1 100 rfl) rfl
theorem q198 : (Jvm.Cond.laysFinal "LogCompactor$Column" "LogCompactor$Column" "tokens" "[LLogCompactor$Token;") ∈ lw_all := lw_g (lw_at lw_m1 102 rfl) rfl
theorem q199 : (Jvm.Cond.soleField "LogCompactor$Column" "tokens") ∈ lw_all := lw_g (lw_at lw_m1 103 rfl) rfl
theorem q200 : (Jvm.Cond.lays "LogCompactor$Column" "LogCompactor$Column" "count" "I") ∈ lw_all := lw_g (lw_at lw_m1 104 rfl) rfl
theorem q201 : (Jvm.Cond.soleField "LogCompactor$Column" "count") ∈ lw_all := lw_g (lw_at lw_m1 105 rfl) rfl
theorem q202 : (Jvm.Cond.superclass "LogCompactor$Column" "java/lang/Object") ∈ lw_all := lw_g (lw_at lw_m1 106 rfl) rfl
theorem q411 : (Jvm.Cond.selects "LogCompactor$Column" ({ cls := "java/lang/Object", name := "getClass", desc := "()Ljava/lang/Class;" } : Jvm.MethodName) ({ cls := "java/lang/Object", name := "getClass", desc := "()Ljava/lang/Class;" } : Jvm.MethodName)) ∈ lw_all := lw_g (lw_at lw_m2 75 rfl) rfl
theorem q555 : (Jvm.Cond.instanceMethod ({ cls := "LogCompactor$Column", name := "fill", desc := "(Ljava/util/ArrayList;LLogCompactor$Template;I)V" } : Jvm.MethodName)) ∈ lw_all := lw_g (lw_at lw_m2 219 rfl) rfl
theorem q556 : (Jvm.Cond.selects "LogCompactor$Column" ({ cls := "LogCompactor$Column", name := "fill", desc := "(Ljava/util/ArrayList;LLogCompactor$Template;I)V" } : Jvm.MethodName) ({ cls := "LogCompactor$Column", name := "fill", desc := "(Ljava/util/ArrayList;LLogCompactor$Template;I)V" } : Jvm.MethodName)) ∈ lw_all := lw_g (lw_at lw_m2 220 rfl) rfl
theorem q557 : (Jvm.Cond.code ({ cls := "LogCompactor$Column", name := "fill", desc := "(Ljava/util/ArrayList;LLogCompactor$Template;I)V" } : Jvm.MethodName) prog_2_method_3_code (5 : Nat) (Option.none : Option Jvm.ClassFile.FieldType)) ∈ lw_all := lw_g (lw_at lw_m2 221 rfl) rfl
theorem q558 : (Jvm.Cond.methodLink "LogCompactor$Column" (27 : Nat) ({ cls := "java/util/ArrayList", name := "size", desc := "()I" } : Jvm.MethodName)) ∈ lw_all := lw_g (lw_at lw_m2 222 rfl) rfl
theorem q559 : (Jvm.Cond.methodLink "LogCompactor$Column" (37 : Nat) ({ cls := "java/util/ArrayList", name := "get", desc := "(I)Ljava/lang/Object;" } : Jvm.MethodName)) ∈ lw_all := lw_g (lw_at lw_m2 223 rfl) rfl
theorem q560 : (Jvm.Cond.classLink "LogCompactor$Column" (41 : Nat) "java/lang/Integer") ∈ lw_all := lw_g (lw_at lw_m2 224 rfl) rfl
theorem q561 : (Jvm.Cond.methodLink "LogCompactor$Column" (43 : Nat) ({ cls := "java/lang/Integer", name := "intValue", desc := "()I" } : Jvm.MethodName)) ∈ lw_all := lw_g (lw_at lw_m2 225 rfl) rfl
theorem q562 : (Jvm.Cond.classLink "LogCompactor$Column" (46 : Nat) "LogCompactor$Line") ∈ lw_all := lw_g (lw_at lw_m2 226 rfl) rfl
theorem q564 : (Jvm.Cond.instanceMethod ({ cls := "LogCompactor$Column", name := "leastCost", desc := "()I" } : Jvm.MethodName)) ∈ lw_all := lw_g (lw_at lw_m2 228 rfl) rfl
theorem q565 : (Jvm.Cond.selects "LogCompactor$Column" ({ cls := "LogCompactor$Column", name := "leastCost", desc := "()I" } : Jvm.MethodName) ({ cls := "LogCompactor$Column", name := "leastCost", desc := "()I" } : Jvm.MethodName)) ∈ lw_all := lw_g (lw_at lw_m2 229 rfl) rfl
theorem q566 : (Jvm.Cond.code ({ cls := "LogCompactor$Column", name := "leastCost", desc := "()I" } : Jvm.MethodName) prog_2_method_15_code (1 : Nat) (Option.some Jvm.ClassFile.FieldType.int)) ∈ lw_all := lw_g (lw_at lw_m2 230 rfl) rfl
theorem q567 : (Jvm.Cond.methodLink "LogCompactor$Column" (91 : Nat) ({ cls := "LogCompactor$Column", name := "bestWay", desc := "()I" } : Jvm.MethodName)) ∈ lw_all := lw_g (lw_at lw_m2 231 rfl) rfl
theorem q568 : (Jvm.Cond.instanceMethod ({ cls := "LogCompactor$Column", name := "bestWay", desc := "()I" } : Jvm.MethodName)) ∈ lw_all := lw_g (lw_at lw_m2 232 rfl) rfl
theorem q569 : (Jvm.Cond.selects "LogCompactor$Column" ({ cls := "LogCompactor$Column", name := "bestWay", desc := "()I" } : Jvm.MethodName) ({ cls := "LogCompactor$Column", name := "bestWay", desc := "()I" } : Jvm.MethodName)) ∈ lw_all := lw_g (lw_at lw_m2 233 rfl) rfl
theorem q570 : (Jvm.Cond.code ({ cls := "LogCompactor$Column", name := "bestWay", desc := "()I" } : Jvm.MethodName) prog_2_method_16_code (3 : Nat) (Option.some Jvm.ClassFile.FieldType.int)) ∈ lw_all := lw_g (lw_at lw_m2 234 rfl) rfl
theorem q571 : (Jvm.Cond.methodLink "LogCompactor$Column" (94 : Nat) ({ cls := "LogCompactor$Column", name := "cost", desc := "(I)I" } : Jvm.MethodName)) ∈ lw_all := lw_g (lw_at lw_m2 235 rfl) rfl
theorem q572 : (Jvm.Cond.instanceMethod ({ cls := "LogCompactor$Column", name := "cost", desc := "(I)I" } : Jvm.MethodName)) ∈ lw_all := lw_g (lw_at lw_m2 236 rfl) rfl
theorem q573 : (Jvm.Cond.selects "LogCompactor$Column" ({ cls := "LogCompactor$Column", name := "cost", desc := "(I)I" } : Jvm.MethodName) ({ cls := "LogCompactor$Column", name := "cost", desc := "(I)I" } : Jvm.MethodName)) ∈ lw_all := lw_g (lw_at lw_m2 237 rfl) rfl
theorem q574 : (Jvm.Cond.code ({ cls := "LogCompactor$Column", name := "cost", desc := "(I)I" } : Jvm.MethodName) prog_2_method_14_code (4 : Nat) (Option.some Jvm.ClassFile.FieldType.int)) ∈ lw_all := lw_g (lw_at lw_m2 238 rfl) rfl
theorem q575 : (Jvm.Cond.methodLink "LogCompactor$Column" (83 : Nat) ({ cls := "LogCompactor$Column", name := "isNumeric", desc := "()Z" } : Jvm.MethodName)) ∈ lw_all := lw_g (lw_at lw_m2 239 rfl) rfl
theorem q576 : (Jvm.Cond.privateMethod ({ cls := "LogCompactor$Column", name := "isNumeric", desc := "()Z" } : Jvm.MethodName)) ∈ lw_tbl := lw_at lw_m3 0 rfl
theorem q577 : (Jvm.Cond.instanceMethod ({ cls := "LogCompactor$Column", name := "isNumeric", desc := "()Z" } : Jvm.MethodName)) ∈ lw_all := lw_g (lw_at lw_m3 1 rfl) rfl
theorem q578 : (Jvm.Cond.code ({ cls := "LogCompactor$Column", name := "isNumeric", desc := "()Z" } : Jvm.MethodName) prog_2_method_11_code (3 : Nat) (Option.some Jvm.ClassFile.FieldType.boolean)) ∈ lw_all := lw_g (lw_at lw_m3 2 rfl) rfl
theorem q579 : (Jvm.Cond.methodLink "LogCompactor$Column" (87 : Nat) ({ cls := "LogCompactor$Column", name := "costOf", desc := "(II)I" } : Jvm.MethodName)) ∈ lw_all := lw_g (lw_at lw_m3 3 rfl) rfl
theorem q580 : (Jvm.Cond.privateMethod ({ cls := "LogCompactor$Column", name := "costOf", desc := "(II)I" } : Jvm.MethodName)) ∈ lw_tbl := lw_at lw_m3 4 rfl
theorem q581 : (Jvm.Cond.instanceMethod ({ cls := "LogCompactor$Column", name := "costOf", desc := "(II)I" } : Jvm.MethodName)) ∈ lw_all := lw_g (lw_at lw_m3 5 rfl) rfl
theorem q582 : (Jvm.Cond.code ({ cls := "LogCompactor$Column", name := "costOf", desc := "(II)I" } : Jvm.MethodName) prog_2_method_13_code (4 : Nat) (Option.some Jvm.ClassFile.FieldType.int)) ∈ lw_all := lw_g (lw_at lw_m3 6 rfl) rfl
theorem q583 : (Jvm.Cond.methodLink "LogCompactor$Column" (72 : Nat) ({ cls := "java/lang/String", name := "length", desc := "()I" } : Jvm.MethodName)) ∈ lw_all := lw_g (lw_at lw_m3 7 rfl) rfl
theorem q584 : (Jvm.Cond.methodLink "LogCompactor$Column" (58 : Nat) ({ cls := "LogCompactor$Column", name := "isFirst", desc := "(I)Z" } : Jvm.MethodName)) ∈ lw_all := lw_g (lw_at lw_m3 8 rfl) rfl
theorem q585 : (Jvm.Cond.privateMethod ({ cls := "LogCompactor$Column", name := "isFirst", desc := "(I)Z" } : Jvm.MethodName)) ∈ lw_tbl := lw_at lw_m3 9 rfl
theorem q586 : (Jvm.Cond.instanceMethod ({ cls := "LogCompactor$Column", name := "isFirst", desc := "(I)Z" } : Jvm.MethodName)) ∈ lw_all := lw_g (lw_at lw_m3 10 rfl) rfl
theorem q587 : (Jvm.Cond.code ({ cls := "LogCompactor$Column", name := "isFirst", desc := "(I)Z" } : Jvm.MethodName) prog_2_method_5_code (2 : Nat) (Option.some Jvm.ClassFile.FieldType.boolean)) ∈ lw_all := lw_g (lw_at lw_m3 11 rfl) rfl
theorem q588 : (Jvm.Cond.methodLink "LogCompactor$Column" (50 : Nat) ({ cls := "LogCompactor$Column", name := "first", desc := "(I)I" } : Jvm.MethodName)) ∈ lw_all := lw_g (lw_at lw_m3 12 rfl) rfl
theorem q589 : (Jvm.Cond.privateMethod ({ cls := "LogCompactor$Column", name := "first", desc := "(I)I" } : Jvm.MethodName)) ∈ lw_tbl := lw_at lw_m3 13 rfl
theorem q590 : (Jvm.Cond.instanceMethod ({ cls := "LogCompactor$Column", name := "first", desc := "(I)I" } : Jvm.MethodName)) ∈ lw_all := lw_g (lw_at lw_m3 14 rfl) rfl
theorem q591 : (Jvm.Cond.code ({ cls := "LogCompactor$Column", name := "first", desc := "(I)I" } : Jvm.MethodName) prog_2_method_6_code (3 : Nat) (Option.some Jvm.ClassFile.FieldType.int)) ∈ lw_all := lw_g (lw_at lw_m3 15 rfl) rfl
theorem q592 : (Jvm.Cond.methodLink "LogCompactor$Column" (54 : Nat) ({ cls := "LogCompactor$Token", name := "isLike", desc := "(LLogCompactor$Token;)Z" } : Jvm.MethodName)) ∈ lw_all := lw_g (lw_at lw_m3 16 rfl) rfl
theorem q604 : (Jvm.Cond.methodLink "LogCompactor$Column" (62 : Nat) ({ cls := "LogCompactor$Column", name := "beginsRun", desc := "(I)Z" } : Jvm.MethodName)) ∈ lw_all := lw_g (lw_at lw_m3 28 rfl) rfl
theorem q605 : (Jvm.Cond.privateMethod ({ cls := "LogCompactor$Column", name := "beginsRun", desc := "(I)Z" } : Jvm.MethodName)) ∈ lw_tbl := lw_at lw_m3 29 rfl
theorem q606 : (Jvm.Cond.instanceMethod ({ cls := "LogCompactor$Column", name := "beginsRun", desc := "(I)Z" } : Jvm.MethodName)) ∈ lw_all := lw_g (lw_at lw_m3 30 rfl) rfl
theorem q607 : (Jvm.Cond.code ({ cls := "LogCompactor$Column", name := "beginsRun", desc := "(I)Z" } : Jvm.MethodName) prog_2_method_9_code (2 : Nat) (Option.some Jvm.ClassFile.FieldType.boolean)) ∈ lw_all := lw_g (lw_at lw_m3 31 rfl) rfl
theorem q608 : (Jvm.Cond.methodLink "LogCompactor$Column" (77 : Nat) ({ cls := "LogCompactor$Token", name := "number", desc := "()I" } : Jvm.MethodName)) ∈ lw_all := lw_g (lw_at lw_m3 32 rfl) rfl
theorem q649 : (Jvm.Cond.methodLink "LogCompactor$Column" (80 : Nat) ({ cls := "LogCompactor$Column", name := "digits", desc := "(I)I" } : Jvm.MethodName)) ∈ lw_all := lw_g (lw_at lw_m3 73 rfl) rfl
theorem q650 : (Jvm.Cond.static ({ cls := "LogCompactor$Column", name := "digits", desc := "(I)I" } : Jvm.MethodName)) ∈ lw_all := lw_g (lw_at lw_m3 74 rfl) rfl
theorem q651 : (Jvm.Cond.code ({ cls := "LogCompactor$Column", name := "digits", desc := "(I)I" } : Jvm.MethodName) prog_2_method_12_code (3 : Nat) (Option.some Jvm.ClassFile.FieldType.int)) ∈ lw_all := lw_g (lw_at lw_m3 75 rfl) rfl
theorem q664 : (Jvm.Cond.instanceMethod ({ cls := "LogCompactor$Column", name := "fillBoth", desc := "(Ljava/util/ArrayList;LLogCompactor$Template;LLogCompactor$Template;I)V" } : Jvm.MethodName)) ∈ lw_all := lw_g (lw_at lw_m3 88 rfl) rfl
theorem q665 : (Jvm.Cond.selects "LogCompactor$Column" ({ cls := "LogCompactor$Column", name := "fillBoth", desc := "(Ljava/util/ArrayList;LLogCompactor$Template;LLogCompactor$Template;I)V" } : Jvm.MethodName) ({ cls := "LogCompactor$Column", name := "fillBoth", desc := "(Ljava/util/ArrayList;LLogCompactor$Template;LLogCompactor$Template;I)V" } : Jvm.MethodName)) ∈ lw_all := lw_g (lw_at lw_m3 89 rfl) rfl
theorem q666 : (Jvm.Cond.code ({ cls := "LogCompactor$Column", name := "fillBoth", desc := "(Ljava/util/ArrayList;LLogCompactor$Template;LLogCompactor$Template;I)V" } : Jvm.MethodName) prog_2_method_4_code (9 : Nat) (Option.none : Option Jvm.ClassFile.FieldType)) ∈ lw_all := lw_g (lw_at lw_m3 90 rfl) rfl
theorem q693 : (Jvm.Cond.fieldLinkNest "LogCompactor$Column" (21 : Nat) "LogCompactor$Template" "rows" "Ljava/util/ArrayList;" "LogCompactor") ∈ lw_tbl := lw_at lw_m3 117 rfl
theorem q1213 : (Jvm.Cond.selects "LogCompactor$Column" ({ cls := "java/lang/Object", name := "equals", desc := "(Ljava/lang/Object;)Z" } : Jvm.MethodName) ({ cls := "java/lang/Object", name := "equals", desc := "(Ljava/lang/Object;)Z" } : Jvm.MethodName)) ∈ lw_all := lw_g (lw_at lw_m5 157 rfl) rfl
theorem q1384 : (Jvm.Cond.fieldLinkNest "LogCompactor$Column" (68 : Nat) "LogCompactor$Token" "text" "Ljava/lang/String;" "LogCompactor") ∈ lw_tbl := lw_at lw_m6 88 rfl
theorem q1389 : (Jvm.Cond.fieldLinkNest "LogCompactor$Column" (65 : Nat) "LogCompactor$Token" "type" "I" "LogCompactor") ∈ lw_tbl := lw_at lw_m6 93 rfl
theorem q1400 : (Jvm.Cond.fieldLinkNest "LogCompactor$Column" (48 : Nat) "LogCompactor$Line" "tokens" "Ljava/util/ArrayList;" "LogCompactor") ∈ lw_tbl := lw_at lw_m6 104 rfl
theorem q1573 : (Jvm.Cond.instanceMethod ({ cls := "LogCompactor$Column", name := "<init>", desc := "(Ljava/util/ArrayList;LLogCompactor$Template;I)V" } : Jvm.MethodName)) ∈ lw_all := lw_g (lw_at lw_m7 37 rfl) rfl
theorem q1574 : (Jvm.Cond.code ({ cls := "LogCompactor$Column", name := "<init>", desc := "(Ljava/util/ArrayList;LLogCompactor$Template;I)V" } : Jvm.MethodName) prog_2_method_2_code (4 : Nat) (Option.none : Option Jvm.ClassFile.FieldType)) ∈ lw_all := lw_g (lw_at lw_m7 38 rfl) rfl
theorem q1575 : (Jvm.Cond.methodLink "LogCompactor$Column" (17 : Nat) ({ cls := "LogCompactor$Column", name := "fill", desc := "(Ljava/util/ArrayList;LLogCompactor$Template;I)V" } : Jvm.MethodName)) ∈ lw_all := lw_g (lw_at lw_m7 39 rfl) rfl
theorem q1697 : (Jvm.Cond.instanceMethod ({ cls := "LogCompactor$Column", name := "different", desc := "()I" } : Jvm.MethodName)) ∈ lw_all := lw_g (lw_at lw_m7 161 rfl) rfl
theorem q1698 : (Jvm.Cond.selects "LogCompactor$Column" ({ cls := "LogCompactor$Column", name := "different", desc := "()I" } : Jvm.MethodName) ({ cls := "LogCompactor$Column", name := "different", desc := "()I" } : Jvm.MethodName)) ∈ lw_all := lw_g (lw_at lw_m7 162 rfl) rfl
theorem q1699 : (Jvm.Cond.code ({ cls := "LogCompactor$Column", name := "different", desc := "()I" } : Jvm.MethodName) prog_2_method_8_code (3 : Nat) (Option.some Jvm.ClassFile.FieldType.int)) ∈ lw_all := lw_g (lw_at lw_m7 163 rfl) rfl
theorem q1724 : (Jvm.Cond.instanceMethod ({ cls := "LogCompactor$Column", name := "runs", desc := "()I" } : Jvm.MethodName)) ∈ lw_all := lw_g (lw_at lw_m7 188 rfl) rfl
theorem q1725 : (Jvm.Cond.selects "LogCompactor$Column" ({ cls := "LogCompactor$Column", name := "runs", desc := "()I" } : Jvm.MethodName) ({ cls := "LogCompactor$Column", name := "runs", desc := "()I" } : Jvm.MethodName)) ∈ lw_all := lw_g (lw_at lw_m7 189 rfl) rfl
theorem q1726 : (Jvm.Cond.code ({ cls := "LogCompactor$Column", name := "runs", desc := "()I" } : Jvm.MethodName) prog_2_method_10_code (3 : Nat) (Option.some Jvm.ClassFile.FieldType.int)) ∈ lw_all := lw_g (lw_at lw_m7 190 rfl) rfl
theorem q1745 : (Jvm.Cond.instanceMethod ({ cls := "LogCompactor$Column", name := "code", desc := "(I)I" } : Jvm.MethodName)) ∈ lw_all := lw_g (lw_at lw_m7 209 rfl) rfl
theorem q1746 : (Jvm.Cond.selects "LogCompactor$Column" ({ cls := "LogCompactor$Column", name := "code", desc := "(I)I" } : Jvm.MethodName) ({ cls := "LogCompactor$Column", name := "code", desc := "(I)I" } : Jvm.MethodName)) ∈ lw_all := lw_g (lw_at lw_m7 210 rfl) rfl
theorem q1747 : (Jvm.Cond.code ({ cls := "LogCompactor$Column", name := "code", desc := "(I)I" } : Jvm.MethodName) prog_2_method_7_code (4 : Nat) (Option.some Jvm.ClassFile.FieldType.int)) ∈ lw_all := lw_g (lw_at lw_m7 211 rfl) rfl
theorem q2329 : (Jvm.Cond.castable "LogCompactor$Column" "java/lang/Object") ∈ lw_tbl := lw_at lw_m10 73 rfl
theorem in_X3 : ∀ w ∈ wsX30, w ∈ lw_all := lw_in wsX30 [198, 200] (by decide +kernel) (by decide +kernel)
/-! LogCompactor$Line -/
set_option maxRecDepth 100000
def RX5 : String := "LogCompactor$Line"
def TX5 : u_T := fun k => match k with
  | 0 => ("LogCompactor$Line", "text", "Ljava/lang/String;", true)
  | 1 => ("LogCompactor$Line", "tokens", "Ljava/util/ArrayList;", true)
  | _ => ("LogCompactor$Line", "gaps", "Ljava/util/ArrayList;", true)
def tyX5 : Nat → FieldType := fun k => match k with
  | 0 => .object "java/lang/String"
  | 1 => .object "java/util/ArrayList"
  | _ => .object "java/util/ArrayList"
abbrev wsX50 : List Cond := u_ws RX5 TX5 3
theorem nmX5 : ∀ a, a < 3 → ∀ b, b < 3 → a ≠ b → (TX5 a).2.1 ≠ (TX5 b).2.1 := by decide +kernel
theorem tyX5_ok : ∀ k, k < 3 → parseFieldDescriptor (TX5 k).2.2.1 = some (tyX5 k) := by decide +kernel
abbrev cX5_hasToken : ByteArray := prog_5_method_4_code
def yX5_hasToken : MethodName := ⟨RX5, "hasToken", "(Ljava/lang/String;)Z"⟩
def dkwX5_hasToken_1 : List UInt8 := [192, 0, 37, 180, 0, 63, 43, 182, 0, 64, 128, 61, 132, 3, 1, 167, 255, 221, 28, 172]
abbrev dktX5_hasToken_1 : List UInt8 := dkwX5_hasToken_1 ++ []
def dkwX5_hasToken_0 : List UInt8 := [3, 61, 3, 62, 29, 42, 180, 0, 10, 182, 0, 56, 162, 0, 30, 28, 42, 180, 0, 10, 29, 182, 0, 59]
abbrev dktX5_hasToken_0 : List UInt8 := dkwX5_hasToken_0 ++ dktX5_hasToken_1
theorem dksX5_hasToken_0 : cX5_hasToken.data.toList.drop 0 = dktX5_hasToken_0 := by decide +kernel
theorem dksX5_hasToken_1 : cX5_hasToken.data.toList.drop 24 = dktX5_hasToken_1 := dk_seg dksX5_hasToken_0 24 rfl rfl
theorem dX5_hasToken_0 : decode cX5_hasToken 0 = .ok (.iconst 0, 1) := dk_3 (dk_at dksX5_hasToken_0 0 rfl rfl)
theorem dX5_hasToken_1 : decode cX5_hasToken 1 = .ok (.istore_n 2, 1) := dk_61 (dk_at dksX5_hasToken_0 1 rfl rfl)
theorem dX5_hasToken_2 : decode cX5_hasToken 2 = .ok (.iconst 0, 1) := dk_3 (dk_at dksX5_hasToken_0 2 rfl rfl)
theorem dX5_hasToken_3 : decode cX5_hasToken 3 = .ok (.istore_n 3, 1) := dk_62 (dk_at dksX5_hasToken_0 3 rfl rfl)
theorem dX5_hasToken_4 : decode cX5_hasToken 4 = .ok (.iload_n 3, 1) := dk_29 (dk_at dksX5_hasToken_0 4 rfl rfl)
theorem dX5_hasToken_5 : decode cX5_hasToken 5 = .ok (.aload_n 0, 1) := dk_42 (dk_at dksX5_hasToken_0 5 rfl rfl)
theorem dX5_hasToken_6 : decode cX5_hasToken 6 = .ok (.getfield 10, 3) := dk_180 0 10 (dk_at dksX5_hasToken_0 6 rfl rfl)
theorem dX5_hasToken_9 : decode cX5_hasToken 9 = .ok (.invokevirtual 56, 3) := dk_182 0 56 (dk_at dksX5_hasToken_0 9 rfl rfl)
theorem dX5_hasToken_12 : decode cX5_hasToken 12 = .ok (.if_icmp .ge 30, 3) := dk_162 0 30 (dk_at dksX5_hasToken_0 12 rfl rfl)
theorem dX5_hasToken_15 : decode cX5_hasToken 15 = .ok (.iload_n 2, 1) := dk_28 (dk_at dksX5_hasToken_0 15 rfl rfl)
theorem dX5_hasToken_16 : decode cX5_hasToken 16 = .ok (.aload_n 0, 1) := dk_42 (dk_at dksX5_hasToken_0 16 rfl rfl)
theorem dX5_hasToken_17 : decode cX5_hasToken 17 = .ok (.getfield 10, 3) := dk_180 0 10 (dk_at dksX5_hasToken_0 17 rfl rfl)
theorem dX5_hasToken_20 : decode cX5_hasToken 20 = .ok (.iload_n 3, 1) := dk_29 (dk_at dksX5_hasToken_0 20 rfl rfl)
theorem dX5_hasToken_21 : decode cX5_hasToken 21 = .ok (.invokevirtual 59, 3) := dk_182 0 59 (dk_at dksX5_hasToken_0 21 rfl rfl)
theorem dX5_hasToken_24 : decode cX5_hasToken 24 = .ok (.checkcast 37, 3) := dk_192 0 37 (dk_at dksX5_hasToken_1 0 rfl rfl)
theorem dX5_hasToken_27 : decode cX5_hasToken 27 = .ok (.getfield 63, 3) := dk_180 0 63 (dk_at dksX5_hasToken_1 3 rfl rfl)
theorem dX5_hasToken_30 : decode cX5_hasToken 30 = .ok (.aload_n 1, 1) := dk_43 (dk_at dksX5_hasToken_1 6 rfl rfl)
theorem dX5_hasToken_31 : decode cX5_hasToken 31 = .ok (.invokevirtual 64, 3) := dk_182 0 64 (dk_at dksX5_hasToken_1 7 rfl rfl)
theorem dX5_hasToken_34 : decode cX5_hasToken 34 = .ok (.ior, 1) := dk_128 (dk_at dksX5_hasToken_1 10 rfl rfl)
theorem dX5_hasToken_35 : decode cX5_hasToken 35 = .ok (.istore_n 2, 1) := dk_61 (dk_at dksX5_hasToken_1 11 rfl rfl)
theorem dX5_hasToken_36 : decode cX5_hasToken 36 = .ok (.iinc 3 1, 3) := dk_132 3 1 (dk_at dksX5_hasToken_1 12 rfl rfl)
theorem dX5_hasToken_39 : decode cX5_hasToken 39 = .ok (.goto (-35), 3) := dk_167 255 221 (dk_at dksX5_hasToken_1 15 rfl rfl)
theorem dX5_hasToken_42 : decode cX5_hasToken 42 = .ok (.iload_n 2, 1) := dk_28 (dk_at dksX5_hasToken_1 18 rfl rfl)
theorem dX5_hasToken_43 : decode cX5_hasToken 43 = .ok (.ireturn, 1) := dk_172 (dk_at dksX5_hasToken_1 19 rfl rfl)
abbrev cX5_init : ByteArray := prog_5_method_1_code
def yX5_init : MethodName := ⟨RX5, "<init>", "(Ljava/lang/String;)V"⟩
def dkwX5_init_4 : List UInt8 := [182, 0, 23, 61, 167, 255, 194, 177]
abbrev dktX5_init_4 : List UInt8 := dkwX5_init_4 ++ []
def dkwX5_init_3 : List UInt8 := [42, 180, 0, 10, 187, 0, 37, 89, 43, 28, 29, 182, 0, 39, 183, 0, 43, 182, 0, 46, 54, 4, 42, 29]
abbrev dktX5_init_3 : List UInt8 := dkwX5_init_3 ++ dktX5_init_4
def dkwX5_init_2 : List UInt8 := [29, 43, 182, 0, 27, 162, 0, 19, 43, 29, 182, 0, 33, 16, 32, 159, 0, 9, 132, 3, 1, 167, 255, 235]
abbrev dktX5_init_2 : List UInt8 := dkwX5_init_2 ++ dktX5_init_3
def dkwX5_init_1 : List UInt8 := [181, 0, 16, 42, 43, 181, 0, 19, 42, 3, 182, 0, 23, 61, 28, 43, 182, 0, 27, 162, 0, 60, 28, 62]
abbrev dktX5_init_1 : List UInt8 := dkwX5_init_1 ++ dktX5_init_2
def dkwX5_init_0 : List UInt8 := [42, 183, 0, 1, 42, 187, 0, 7, 89, 183, 0, 9, 181, 0, 10, 42, 187, 0, 7, 89, 183, 0, 9]
abbrev dktX5_init_0 : List UInt8 := dkwX5_init_0 ++ dktX5_init_1
theorem dksX5_init_0 : cX5_init.data.toList.drop 0 = dktX5_init_0 := by decide +kernel
theorem dksX5_init_1 : cX5_init.data.toList.drop 23 = dktX5_init_1 := dk_seg dksX5_init_0 23 rfl rfl
theorem dksX5_init_2 : cX5_init.data.toList.drop 47 = dktX5_init_2 := dk_seg dksX5_init_1 24 rfl rfl
theorem dksX5_init_3 : cX5_init.data.toList.drop 71 = dktX5_init_3 := dk_seg dksX5_init_2 24 rfl rfl
theorem dksX5_init_4 : cX5_init.data.toList.drop 95 = dktX5_init_4 := dk_seg dksX5_init_3 24 rfl rfl
theorem dX5_init_0 : decode cX5_init 0 = .ok (.aload_n 0, 1) := dk_42 (dk_at dksX5_init_0 0 rfl rfl)
theorem dX5_init_1 : decode cX5_init 1 = .ok (.invokespecial 1, 3) := dk_183 0 1 (dk_at dksX5_init_0 1 rfl rfl)
theorem dX5_init_4 : decode cX5_init 4 = .ok (.aload_n 0, 1) := dk_42 (dk_at dksX5_init_0 4 rfl rfl)
theorem dX5_init_5 : decode cX5_init 5 = .ok (.new 7, 3) := dk_187 0 7 (dk_at dksX5_init_0 5 rfl rfl)
theorem dX5_init_8 : decode cX5_init 8 = .ok (.dup, 1) := dk_89 (dk_at dksX5_init_0 8 rfl rfl)
theorem dX5_init_9 : decode cX5_init 9 = .ok (.invokespecial 9, 3) := dk_183 0 9 (dk_at dksX5_init_0 9 rfl rfl)
theorem dX5_init_12 : decode cX5_init 12 = .ok (.putfield 10, 3) := dk_181 0 10 (dk_at dksX5_init_0 12 rfl rfl)
theorem dX5_init_15 : decode cX5_init 15 = .ok (.aload_n 0, 1) := dk_42 (dk_at dksX5_init_0 15 rfl rfl)
theorem dX5_init_16 : decode cX5_init 16 = .ok (.new 7, 3) := dk_187 0 7 (dk_at dksX5_init_0 16 rfl rfl)
theorem dX5_init_19 : decode cX5_init 19 = .ok (.dup, 1) := dk_89 (dk_at dksX5_init_0 19 rfl rfl)
theorem dX5_init_20 : decode cX5_init 20 = .ok (.invokespecial 9, 3) := dk_183 0 9 (dk_at dksX5_init_0 20 rfl rfl)
theorem dX5_init_23 : decode cX5_init 23 = .ok (.putfield 16, 3) := dk_181 0 16 (dk_at dksX5_init_1 0 rfl rfl)
theorem dX5_init_26 : decode cX5_init 26 = .ok (.aload_n 0, 1) := dk_42 (dk_at dksX5_init_1 3 rfl rfl)
theorem dX5_init_27 : decode cX5_init 27 = .ok (.aload_n 1, 1) := dk_43 (dk_at dksX5_init_1 4 rfl rfl)
theorem dX5_init_28 : decode cX5_init 28 = .ok (.putfield 19, 3) := dk_181 0 19 (dk_at dksX5_init_1 5 rfl rfl)
theorem dX5_init_31 : decode cX5_init 31 = .ok (.aload_n 0, 1) := dk_42 (dk_at dksX5_init_1 8 rfl rfl)
theorem dX5_init_32 : decode cX5_init 32 = .ok (.iconst 0, 1) := dk_3 (dk_at dksX5_init_1 9 rfl rfl)
theorem dX5_init_33 : decode cX5_init 33 = .ok (.invokevirtual 23, 3) := dk_182 0 23 (dk_at dksX5_init_1 10 rfl rfl)
theorem dX5_init_36 : decode cX5_init 36 = .ok (.istore_n 2, 1) := dk_61 (dk_at dksX5_init_1 13 rfl rfl)
theorem dX5_init_37 : decode cX5_init 37 = .ok (.iload_n 2, 1) := dk_28 (dk_at dksX5_init_1 14 rfl rfl)
theorem dX5_init_38 : decode cX5_init 38 = .ok (.aload_n 1, 1) := dk_43 (dk_at dksX5_init_1 15 rfl rfl)
theorem dX5_init_39 : decode cX5_init 39 = .ok (.invokevirtual 27, 3) := dk_182 0 27 (dk_at dksX5_init_1 16 rfl rfl)
theorem dX5_init_42 : decode cX5_init 42 = .ok (.if_icmp .ge 60, 3) := dk_162 0 60 (dk_at dksX5_init_1 19 rfl rfl)
theorem dX5_init_45 : decode cX5_init 45 = .ok (.iload_n 2, 1) := dk_28 (dk_at dksX5_init_1 22 rfl rfl)
theorem dX5_init_46 : decode cX5_init 46 = .ok (.istore_n 3, 1) := dk_62 (dk_at dksX5_init_1 23 rfl rfl)
theorem dX5_init_47 : decode cX5_init 47 = .ok (.iload_n 3, 1) := dk_29 (dk_at dksX5_init_2 0 rfl rfl)
theorem dX5_init_48 : decode cX5_init 48 = .ok (.aload_n 1, 1) := dk_43 (dk_at dksX5_init_2 1 rfl rfl)
theorem dX5_init_49 : decode cX5_init 49 = .ok (.invokevirtual 27, 3) := dk_182 0 27 (dk_at dksX5_init_2 2 rfl rfl)
theorem dX5_init_52 : decode cX5_init 52 = .ok (.if_icmp .ge 19, 3) := dk_162 0 19 (dk_at dksX5_init_2 5 rfl rfl)
theorem dX5_init_55 : decode cX5_init 55 = .ok (.aload_n 1, 1) := dk_43 (dk_at dksX5_init_2 8 rfl rfl)
theorem dX5_init_56 : decode cX5_init 56 = .ok (.iload_n 3, 1) := dk_29 (dk_at dksX5_init_2 9 rfl rfl)
theorem dX5_init_57 : decode cX5_init 57 = .ok (.invokevirtual 33, 3) := dk_182 0 33 (dk_at dksX5_init_2 10 rfl rfl)
theorem dX5_init_60 : decode cX5_init 60 = .ok (.bipush 32, 2) := dk_16 32 (dk_at dksX5_init_2 13 rfl rfl)
theorem dX5_init_62 : decode cX5_init 62 = .ok (.if_icmp .eq 9, 3) := dk_159 0 9 (dk_at dksX5_init_2 15 rfl rfl)
theorem dX5_init_65 : decode cX5_init 65 = .ok (.iinc 3 1, 3) := dk_132 3 1 (dk_at dksX5_init_2 18 rfl rfl)
theorem dX5_init_68 : decode cX5_init 68 = .ok (.goto (-21), 3) := dk_167 255 235 (dk_at dksX5_init_2 21 rfl rfl)
theorem dX5_init_71 : decode cX5_init 71 = .ok (.aload_n 0, 1) := dk_42 (dk_at dksX5_init_3 0 rfl rfl)
theorem dX5_init_72 : decode cX5_init 72 = .ok (.getfield 10, 3) := dk_180 0 10 (dk_at dksX5_init_3 1 rfl rfl)
theorem dX5_init_75 : decode cX5_init 75 = .ok (.new 37, 3) := dk_187 0 37 (dk_at dksX5_init_3 4 rfl rfl)
theorem dX5_init_78 : decode cX5_init 78 = .ok (.dup, 1) := dk_89 (dk_at dksX5_init_3 7 rfl rfl)
theorem dX5_init_79 : decode cX5_init 79 = .ok (.aload_n 1, 1) := dk_43 (dk_at dksX5_init_3 8 rfl rfl)
theorem dX5_init_80 : decode cX5_init 80 = .ok (.iload_n 2, 1) := dk_28 (dk_at dksX5_init_3 9 rfl rfl)
theorem dX5_init_81 : decode cX5_init 81 = .ok (.iload_n 3, 1) := dk_29 (dk_at dksX5_init_3 10 rfl rfl)
theorem dX5_init_82 : decode cX5_init 82 = .ok (.invokevirtual 39, 3) := dk_182 0 39 (dk_at dksX5_init_3 11 rfl rfl)
theorem dX5_init_85 : decode cX5_init 85 = .ok (.invokespecial 43, 3) := dk_183 0 43 (dk_at dksX5_init_3 14 rfl rfl)
theorem dX5_init_88 : decode cX5_init 88 = .ok (.invokevirtual 46, 3) := dk_182 0 46 (dk_at dksX5_init_3 17 rfl rfl)
theorem dX5_init_91 : decode cX5_init 91 = .ok (.istore 4, 2) := dk_54 4 (dk_at dksX5_init_3 20 rfl rfl)
theorem dX5_init_93 : decode cX5_init 93 = .ok (.aload_n 0, 1) := dk_42 (dk_at dksX5_init_3 22 rfl rfl)
theorem dX5_init_94 : decode cX5_init 94 = .ok (.iload_n 3, 1) := dk_29 (dk_at dksX5_init_3 23 rfl rfl)
theorem dX5_init_95 : decode cX5_init 95 = .ok (.invokevirtual 23, 3) := dk_182 0 23 (dk_at dksX5_init_4 0 rfl rfl)
theorem dX5_init_98 : decode cX5_init 98 = .ok (.istore_n 2, 1) := dk_61 (dk_at dksX5_init_4 3 rfl rfl)
theorem dX5_init_99 : decode cX5_init 99 = .ok (.goto (-62), 3) := dk_167 255 194 (dk_at dksX5_init_4 4 rfl rfl)
theorem dX5_init_102 : decode cX5_init 102 = .ok (.return_, 1) := dk_177 (dk_at dksX5_init_4 7 rfl rfl)
abbrev cX5_gapFrom : ByteArray := prog_5_method_2_code
def yX5_gapFrom : MethodName := ⟨RX5, "gapFrom", "(I)I"⟩
def dkwX5_gapFrom_2 : List UInt8 := [172]
abbrev dktX5_gapFrom_2 : List UInt8 := dkwX5_gapFrom_2 ++ []
def dkwX5_gapFrom_1 : List UInt8 := [160, 0, 9, 132, 2, 1, 167, 255, 229, 42, 180, 0, 16, 28, 27, 100, 184, 0, 50, 182, 0, 46, 62, 28]
abbrev dktX5_gapFrom_1 : List UInt8 := dkwX5_gapFrom_1 ++ dktX5_gapFrom_2
def dkwX5_gapFrom_0 : List UInt8 := [27, 61, 28, 42, 180, 0, 19, 182, 0, 27, 162, 0, 22, 42, 180, 0, 19, 28, 182, 0, 33, 16, 32]
abbrev dktX5_gapFrom_0 : List UInt8 := dkwX5_gapFrom_0 ++ dktX5_gapFrom_1
theorem dksX5_gapFrom_0 : cX5_gapFrom.data.toList.drop 0 = dktX5_gapFrom_0 := by decide +kernel
theorem dksX5_gapFrom_1 : cX5_gapFrom.data.toList.drop 23 = dktX5_gapFrom_1 := dk_seg dksX5_gapFrom_0 23 rfl rfl
theorem dksX5_gapFrom_2 : cX5_gapFrom.data.toList.drop 47 = dktX5_gapFrom_2 := dk_seg dksX5_gapFrom_1 24 rfl rfl
theorem dX5_gapFrom_0 : decode cX5_gapFrom 0 = .ok (.iload_n 1, 1) := dk_27 (dk_at dksX5_gapFrom_0 0 rfl rfl)
theorem dX5_gapFrom_1 : decode cX5_gapFrom 1 = .ok (.istore_n 2, 1) := dk_61 (dk_at dksX5_gapFrom_0 1 rfl rfl)
theorem dX5_gapFrom_2 : decode cX5_gapFrom 2 = .ok (.iload_n 2, 1) := dk_28 (dk_at dksX5_gapFrom_0 2 rfl rfl)
theorem dX5_gapFrom_3 : decode cX5_gapFrom 3 = .ok (.aload_n 0, 1) := dk_42 (dk_at dksX5_gapFrom_0 3 rfl rfl)
theorem dX5_gapFrom_4 : decode cX5_gapFrom 4 = .ok (.getfield 19, 3) := dk_180 0 19 (dk_at dksX5_gapFrom_0 4 rfl rfl)
theorem dX5_gapFrom_7 : decode cX5_gapFrom 7 = .ok (.invokevirtual 27, 3) := dk_182 0 27 (dk_at dksX5_gapFrom_0 7 rfl rfl)
theorem dX5_gapFrom_10 : decode cX5_gapFrom 10 = .ok (.if_icmp .ge 22, 3) := dk_162 0 22 (dk_at dksX5_gapFrom_0 10 rfl rfl)
theorem dX5_gapFrom_13 : decode cX5_gapFrom 13 = .ok (.aload_n 0, 1) := dk_42 (dk_at dksX5_gapFrom_0 13 rfl rfl)
theorem dX5_gapFrom_14 : decode cX5_gapFrom 14 = .ok (.getfield 19, 3) := dk_180 0 19 (dk_at dksX5_gapFrom_0 14 rfl rfl)
theorem dX5_gapFrom_17 : decode cX5_gapFrom 17 = .ok (.iload_n 2, 1) := dk_28 (dk_at dksX5_gapFrom_0 17 rfl rfl)
theorem dX5_gapFrom_18 : decode cX5_gapFrom 18 = .ok (.invokevirtual 33, 3) := dk_182 0 33 (dk_at dksX5_gapFrom_0 18 rfl rfl)
theorem dX5_gapFrom_21 : decode cX5_gapFrom 21 = .ok (.bipush 32, 2) := dk_16 32 (dk_at dksX5_gapFrom_0 21 rfl rfl)
theorem dX5_gapFrom_23 : decode cX5_gapFrom 23 = .ok (.if_icmp .ne 9, 3) := dk_160 0 9 (dk_at dksX5_gapFrom_1 0 rfl rfl)
theorem dX5_gapFrom_26 : decode cX5_gapFrom 26 = .ok (.iinc 2 1, 3) := dk_132 2 1 (dk_at dksX5_gapFrom_1 3 rfl rfl)
theorem dX5_gapFrom_29 : decode cX5_gapFrom 29 = .ok (.goto (-27), 3) := dk_167 255 229 (dk_at dksX5_gapFrom_1 6 rfl rfl)
theorem dX5_gapFrom_32 : decode cX5_gapFrom 32 = .ok (.aload_n 0, 1) := dk_42 (dk_at dksX5_gapFrom_1 9 rfl rfl)
theorem dX5_gapFrom_33 : decode cX5_gapFrom 33 = .ok (.getfield 16, 3) := dk_180 0 16 (dk_at dksX5_gapFrom_1 10 rfl rfl)
theorem dX5_gapFrom_36 : decode cX5_gapFrom 36 = .ok (.iload_n 2, 1) := dk_28 (dk_at dksX5_gapFrom_1 13 rfl rfl)
theorem dX5_gapFrom_37 : decode cX5_gapFrom 37 = .ok (.iload_n 1, 1) := dk_27 (dk_at dksX5_gapFrom_1 14 rfl rfl)
theorem dX5_gapFrom_38 : decode cX5_gapFrom 38 = .ok (.isub, 1) := dk_100 (dk_at dksX5_gapFrom_1 15 rfl rfl)
theorem dX5_gapFrom_39 : decode cX5_gapFrom 39 = .ok (.invokestatic 50, 3) := dk_184 0 50 (dk_at dksX5_gapFrom_1 16 rfl rfl)
theorem dX5_gapFrom_42 : decode cX5_gapFrom 42 = .ok (.invokevirtual 46, 3) := dk_182 0 46 (dk_at dksX5_gapFrom_1 19 rfl rfl)
theorem dX5_gapFrom_45 : decode cX5_gapFrom 45 = .ok (.istore_n 3, 1) := dk_62 (dk_at dksX5_gapFrom_1 22 rfl rfl)
theorem dX5_gapFrom_46 : decode cX5_gapFrom 46 = .ok (.iload_n 2, 1) := dk_28 (dk_at dksX5_gapFrom_1 23 rfl rfl)
theorem dX5_gapFrom_47 : decode cX5_gapFrom 47 = .ok (.ireturn, 1) := dk_172 (dk_at dksX5_gapFrom_2 0 rfl rfl)
abbrev cX5_length : ByteArray := prog_5_method_3_code
def yX5_length : MethodName := ⟨RX5, "length", "()I"⟩
def dkwX5_length_0 : List UInt8 := [42, 180, 0, 19, 182, 0, 27, 172]
abbrev dktX5_length_0 : List UInt8 := dkwX5_length_0 ++ []
theorem dksX5_length_0 : cX5_length.data.toList.drop 0 = dktX5_length_0 := by decide +kernel
theorem dX5_length_0 : decode cX5_length 0 = .ok (.aload_n 0, 1) := dk_42 (dk_at dksX5_length_0 0 rfl rfl)
theorem dX5_length_1 : decode cX5_length 1 = .ok (.getfield 19, 3) := dk_180 0 19 (dk_at dksX5_length_0 1 rfl rfl)
theorem dX5_length_4 : decode cX5_length 4 = .ok (.invokevirtual 27, 3) := dk_182 0 27 (dk_at dksX5_length_0 4 rfl rfl)
theorem dX5_length_7 : decode cX5_length 7 = .ok (.ireturn, 1) := dk_172 (dk_at dksX5_length_0 7 rfl rfl)
theorem q115 : (Jvm.Cond.initialized "LogCompactor$Line") ∈ lw_all := lw_g (lw_at lw_m1 19 rfl) rfl
theorem q413 : (Jvm.Cond.selects "LogCompactor$Line" ({ cls := "java/lang/Object", name := "getClass", desc := "()Ljava/lang/Class;" } : Jvm.MethodName) ({ cls := "java/lang/Object", name := "getClass", desc := "()Ljava/lang/Class;" } : Jvm.MethodName)) ∈ lw_all := lw_g (lw_at lw_m2 77 rfl) rfl
theorem q1215 : (Jvm.Cond.selects "LogCompactor$Line" ({ cls := "java/lang/Object", name := "equals", desc := "(Ljava/lang/Object;)Z" } : Jvm.MethodName) ({ cls := "java/lang/Object", name := "equals", desc := "(Ljava/lang/Object;)Z" } : Jvm.MethodName)) ∈ lw_all := lw_g (lw_at lw_m5 159 rfl) rfl
theorem q1261 : (Jvm.Cond.instanceMethod ({ cls := "LogCompactor$Line", name := "hasToken", desc := "(Ljava/lang/String;)Z" } : Jvm.MethodName)) ∈ lw_all := lw_g (lw_at lw_m5 205 rfl) rfl
theorem q1262 : (Jvm.Cond.selects "LogCompactor$Line" ({ cls := "LogCompactor$Line", name := "hasToken", desc := "(Ljava/lang/String;)Z" } : Jvm.MethodName) ({ cls := "LogCompactor$Line", name := "hasToken", desc := "(Ljava/lang/String;)Z" } : Jvm.MethodName)) ∈ lw_all := lw_g (lw_at lw_m5 206 rfl) rfl
theorem q1263 : (Jvm.Cond.code ({ cls := "LogCompactor$Line", name := "hasToken", desc := "(Ljava/lang/String;)Z" } : Jvm.MethodName) prog_5_method_4_code (4 : Nat) (Option.some Jvm.ClassFile.FieldType.boolean)) ∈ lw_all := lw_g (lw_at lw_m5 207 rfl) rfl
theorem q1264 : (Jvm.Cond.methodLink "LogCompactor$Line" (56 : Nat) ({ cls := "java/util/ArrayList", name := "size", desc := "()I" } : Jvm.MethodName)) ∈ lw_all := lw_g (lw_at lw_m5 208 rfl) rfl
theorem q1265 : (Jvm.Cond.methodLink "LogCompactor$Line" (59 : Nat) ({ cls := "java/util/ArrayList", name := "get", desc := "(I)Ljava/lang/Object;" } : Jvm.MethodName)) ∈ lw_all := lw_g (lw_at lw_m5 209 rfl) rfl
theorem q1266 : (Jvm.Cond.classLink "LogCompactor$Line" (37 : Nat) "LogCompactor$Token") ∈ lw_all := lw_g (lw_at lw_m5 210 rfl) rfl
theorem q1267 : (Jvm.Cond.methodLink "LogCompactor$Line" (64 : Nat) ({ cls := "java/lang/String", name := "equals", desc := "(Ljava/lang/Object;)Z" } : Jvm.MethodName)) ∈ lw_all := lw_g (lw_at lw_m5 211 rfl) rfl
theorem q1323 : (Jvm.Cond.instantiable "LogCompactor$Line" (3 : Nat)) ∈ lw_all := lw_g (lw_at lw_m6 27 rfl) rfl
theorem q1326 : (Jvm.Cond.instanceMethod ({ cls := "LogCompactor$Line", name := "<init>", desc := "(Ljava/lang/String;)V" } : Jvm.MethodName)) ∈ lw_all := lw_g (lw_at lw_m6 30 rfl) rfl
theorem q1327 : (Jvm.Cond.code ({ cls := "LogCompactor$Line", name := "<init>", desc := "(Ljava/lang/String;)V" } : Jvm.MethodName) prog_5_method_1_code (5 : Nat) (Option.none : Option Jvm.ClassFile.FieldType)) ∈ lw_all := lw_g (lw_at lw_m6 31 rfl) rfl
theorem q1328 : (Jvm.Cond.methodLink "LogCompactor$Line" (1 : Nat) ({ cls := "java/lang/Object", name := "<init>", desc := "()V" } : Jvm.MethodName)) ∈ lw_all := lw_g (lw_at lw_m6 32 rfl) rfl
theorem q1329 : (Jvm.Cond.classLink "LogCompactor$Line" (7 : Nat) "java/util/ArrayList") ∈ lw_all := lw_g (lw_at lw_m6 33 rfl) rfl
theorem q1330 : (Jvm.Cond.methodLink "LogCompactor$Line" (9 : Nat) ({ cls := "java/util/ArrayList", name := "<init>", desc := "()V" } : Jvm.MethodName)) ∈ lw_all := lw_g (lw_at lw_m6 34 rfl) rfl
theorem q1331 : (Jvm.Cond.methodLink "LogCompactor$Line" (23 : Nat) ({ cls := "LogCompactor$Line", name := "gapFrom", desc := "(I)I" } : Jvm.MethodName)) ∈ lw_all := lw_g (lw_at lw_m6 35 rfl) rfl
theorem q1332 : (Jvm.Cond.privateMethod ({ cls := "LogCompactor$Line", name := "gapFrom", desc := "(I)I" } : Jvm.MethodName)) ∈ lw_tbl := lw_at lw_m6 36 rfl
theorem q1333 : (Jvm.Cond.instanceMethod ({ cls := "LogCompactor$Line", name := "gapFrom", desc := "(I)I" } : Jvm.MethodName)) ∈ lw_all := lw_g (lw_at lw_m6 37 rfl) rfl
theorem q1334 : (Jvm.Cond.code ({ cls := "LogCompactor$Line", name := "gapFrom", desc := "(I)I" } : Jvm.MethodName) prog_5_method_2_code (4 : Nat) (Option.some Jvm.ClassFile.FieldType.int)) ∈ lw_all := lw_g (lw_at lw_m6 38 rfl) rfl
theorem q1335 : (Jvm.Cond.methodLink "LogCompactor$Line" (27 : Nat) ({ cls := "java/lang/String", name := "length", desc := "()I" } : Jvm.MethodName)) ∈ lw_all := lw_g (lw_at lw_m6 39 rfl) rfl
theorem q1336 : (Jvm.Cond.methodLink "LogCompactor$Line" (33 : Nat) ({ cls := "java/lang/String", name := "charAt", desc := "(I)C" } : Jvm.MethodName)) ∈ lw_all := lw_g (lw_at lw_m6 40 rfl) rfl
theorem q1337 : (Jvm.Cond.methodLink "LogCompactor$Line" (50 : Nat) ({ cls := "java/lang/Integer", name := "valueOf", desc := "(I)Ljava/lang/Integer;" } : Jvm.MethodName)) ∈ lw_all := lw_g (lw_at lw_m6 41 rfl) rfl
theorem q1338 : (Jvm.Cond.methodLink "LogCompactor$Line" (46 : Nat) ({ cls := "java/util/ArrayList", name := "add", desc := "(Ljava/lang/Object;)Z" } : Jvm.MethodName)) ∈ lw_all := lw_g (lw_at lw_m6 42 rfl) rfl
theorem q1340 : (Jvm.Cond.methodLink "LogCompactor$Line" (39 : Nat) ({ cls := "java/lang/String", name := "substring", desc := "(II)Ljava/lang/String;" } : Jvm.MethodName)) ∈ lw_all := lw_g (lw_at lw_m6 44 rfl) rfl
theorem q1364 : (Jvm.Cond.methodLink "LogCompactor$Line" (43 : Nat) ({ cls := "LogCompactor$Token", name := "<init>", desc := "(Ljava/lang/String;)V" } : Jvm.MethodName)) ∈ lw_all := lw_g (lw_at lw_m6 68 rfl) rfl
theorem q1382 : (Jvm.Cond.fieldLinkNest "LogCompactor$Line" (63 : Nat) "LogCompactor$Token" "text" "Ljava/lang/String;" "LogCompactor") ∈ lw_tbl := lw_at lw_m6 86 rfl
theorem q1396 : (Jvm.Cond.fieldLink "LogCompactor$Line" (19 : Nat) "LogCompactor$Line" "text" "Ljava/lang/String;") ∈ lw_all := lw_g (lw_at lw_m6 100 rfl) rfl
theorem q1397 : (Jvm.Cond.fieldLink "LogCompactor$Line" (10 : Nat) "LogCompactor$Line" "tokens" "Ljava/util/ArrayList;") ∈ lw_all := lw_g (lw_at lw_m6 101 rfl) rfl
theorem q1403 : (Jvm.Cond.fieldLink "LogCompactor$Line" (16 : Nat) "LogCompactor$Line" "gaps" "Ljava/util/ArrayList;") ∈ lw_all := lw_g (lw_at lw_m6 107 rfl) rfl
theorem q1406 : (Jvm.Cond.laysFinal "LogCompactor$Line" "LogCompactor$Line" "text" "Ljava/lang/String;") ∈ lw_all := lw_g (lw_at lw_m6 110 rfl) rfl
theorem q1407 : (Jvm.Cond.soleField "LogCompactor$Line" "text") ∈ lw_all := lw_g (lw_at lw_m6 111 rfl) rfl
theorem q1408 : (Jvm.Cond.laysFinal "LogCompactor$Line" "LogCompactor$Line" "tokens" "Ljava/util/ArrayList;") ∈ lw_all := lw_g (lw_at lw_m6 112 rfl) rfl
theorem q1409 : (Jvm.Cond.soleField "LogCompactor$Line" "tokens") ∈ lw_all := lw_g (lw_at lw_m6 113 rfl) rfl
theorem q1410 : (Jvm.Cond.laysFinal "LogCompactor$Line" "LogCompactor$Line" "gaps" "Ljava/util/ArrayList;") ∈ lw_all := lw_g (lw_at lw_m6 114 rfl) rfl
theorem q1411 : (Jvm.Cond.soleField "LogCompactor$Line" "gaps") ∈ lw_all := lw_g (lw_at lw_m6 115 rfl) rfl
theorem q1412 : (Jvm.Cond.superclass "LogCompactor$Line" "java/lang/Object") ∈ lw_all := lw_g (lw_at lw_m6 116 rfl) rfl
theorem q1503 : (Jvm.Cond.instanceMethod ({ cls := "LogCompactor$Line", name := "length", desc := "()I" } : Jvm.MethodName)) ∈ lw_all := lw_g (lw_at lw_m6 207 rfl) rfl
theorem q1504 : (Jvm.Cond.selects "LogCompactor$Line" ({ cls := "LogCompactor$Line", name := "length", desc := "()I" } : Jvm.MethodName) ({ cls := "LogCompactor$Line", name := "length", desc := "()I" } : Jvm.MethodName)) ∈ lw_all := lw_g (lw_at lw_m6 208 rfl) rfl
theorem q1505 : (Jvm.Cond.code ({ cls := "LogCompactor$Line", name := "length", desc := "()I" } : Jvm.MethodName) prog_5_method_3_code (1 : Nat) (Option.some Jvm.ClassFile.FieldType.int)) ∈ lw_all := lw_g (lw_at lw_m6 209 rfl) rfl
theorem q2335 : (Jvm.Cond.castable "LogCompactor$Line" "java/lang/Object") ∈ lw_tbl := lw_at lw_m10 79 rfl
theorem in_X5 : ∀ w ∈ wsX50, w ∈ lw_all := lw_in wsX50 [1406, 1408, 1410] (by decide +kernel) (by decide +kernel)
/-! LogCompactor$Token -/
set_option maxRecDepth 100000
def RX6 : String := "LogCompactor$Token"
def TX6 : u_T := fun k => match k with
  | 0 => ("LogCompactor$Token", "text", "Ljava/lang/String;", true)
  | _ => ("LogCompactor$Token", "type", "I", true)
def tyX6 : Nat → FieldType := fun k => match k with
  | 0 => .object "java/lang/String"
  | _ => .int
abbrev wsX60 : List Cond := u_ws RX6 TX6 2
theorem nmX6 : ∀ a, a < 2 → ∀ b, b < 2 → a ≠ b → (TX6 a).2.1 ≠ (TX6 b).2.1 := by decide +kernel
theorem tyX6_ok : ∀ k, k < 2 → parseFieldDescriptor (TX6 k).2.2.1 = some (tyX6 k) := by decide +kernel
abbrev cX6_isLike : ByteArray := prog_14_method_7_code
def yX6_isLike : MethodName := ⟨RX6, "isLike", "(LLogCompactor$Token;)Z"⟩
def dkwX6_isLike_0 : List UInt8 := [42, 180, 0, 9, 43, 180, 0, 9, 182, 0, 47, 172]
abbrev dktX6_isLike_0 : List UInt8 := dkwX6_isLike_0 ++ []
theorem dksX6_isLike_0 : cX6_isLike.data.toList.drop 0 = dktX6_isLike_0 := by decide +kernel
theorem dX6_isLike_0 : decode cX6_isLike 0 = .ok (.aload_n 0, 1) := dk_42 (dk_at dksX6_isLike_0 0 rfl rfl)
theorem dX6_isLike_1 : decode cX6_isLike 1 = .ok (.getfield 9, 3) := dk_180 0 9 (dk_at dksX6_isLike_0 1 rfl rfl)
theorem dX6_isLike_4 : decode cX6_isLike 4 = .ok (.aload_n 1, 1) := dk_43 (dk_at dksX6_isLike_0 4 rfl rfl)
theorem dX6_isLike_5 : decode cX6_isLike 5 = .ok (.getfield 9, 3) := dk_180 0 9 (dk_at dksX6_isLike_0 5 rfl rfl)
theorem dX6_isLike_8 : decode cX6_isLike 8 = .ok (.invokevirtual 47, 3) := dk_182 0 47 (dk_at dksX6_isLike_0 8 rfl rfl)
theorem dX6_isLike_11 : decode cX6_isLike 11 = .ok (.ireturn, 1) := dk_172 (dk_at dksX6_isLike_0 11 rfl rfl)
abbrev cX6_number : ByteArray := prog_14_method_6_code
def yX6_number : MethodName := ⟨RX6, "number", "()I"⟩
def dkwX6_number_3 : List UInt8 := [116, 167, 0, 4, 28, 172]
abbrev dktX6_number_3 : List UInt8 := dkwX6_number_3 ++ []
def dkwX6_number_2 : List UInt8 := [42, 180, 0, 9, 29, 182, 0, 32, 96, 16, 48, 100, 61, 132, 3, 1, 167, 255, 225, 27, 153, 0, 8, 28]
abbrev dktX6_number_2 : List UInt8 := dkwX6_number_2 ++ dktX6_number_3
def dkwX6_number_1 : List UInt8 := [153, 0, 7, 4, 167, 0, 4, 3, 62, 29, 42, 180, 0, 9, 182, 0, 26, 162, 0, 26, 16, 10, 28, 104]
abbrev dktX6_number_1 : List UInt8 := dkwX6_number_1 ++ dktX6_number_2
def dkwX6_number_0 : List UInt8 := [42, 180, 0, 9, 3, 182, 0, 32, 16, 45, 160, 0, 7, 4, 167, 0, 4, 3, 60, 3, 61, 27]
abbrev dktX6_number_0 : List UInt8 := dkwX6_number_0 ++ dktX6_number_1
theorem dksX6_number_0 : cX6_number.data.toList.drop 0 = dktX6_number_0 := by decide +kernel
theorem dksX6_number_1 : cX6_number.data.toList.drop 22 = dktX6_number_1 := dk_seg dksX6_number_0 22 rfl rfl
theorem dksX6_number_2 : cX6_number.data.toList.drop 46 = dktX6_number_2 := dk_seg dksX6_number_1 24 rfl rfl
theorem dksX6_number_3 : cX6_number.data.toList.drop 70 = dktX6_number_3 := dk_seg dksX6_number_2 24 rfl rfl
theorem dX6_number_0 : decode cX6_number 0 = .ok (.aload_n 0, 1) := dk_42 (dk_at dksX6_number_0 0 rfl rfl)
theorem dX6_number_1 : decode cX6_number 1 = .ok (.getfield 9, 3) := dk_180 0 9 (dk_at dksX6_number_0 1 rfl rfl)
theorem dX6_number_4 : decode cX6_number 4 = .ok (.iconst 0, 1) := dk_3 (dk_at dksX6_number_0 4 rfl rfl)
theorem dX6_number_5 : decode cX6_number 5 = .ok (.invokevirtual 32, 3) := dk_182 0 32 (dk_at dksX6_number_0 5 rfl rfl)
theorem dX6_number_8 : decode cX6_number 8 = .ok (.bipush 45, 2) := dk_16 45 (dk_at dksX6_number_0 8 rfl rfl)
theorem dX6_number_10 : decode cX6_number 10 = .ok (.if_icmp .ne 7, 3) := dk_160 0 7 (dk_at dksX6_number_0 10 rfl rfl)
theorem dX6_number_13 : decode cX6_number 13 = .ok (.iconst 1, 1) := dk_4 (dk_at dksX6_number_0 13 rfl rfl)
theorem dX6_number_14 : decode cX6_number 14 = .ok (.goto 4, 3) := dk_167 0 4 (dk_at dksX6_number_0 14 rfl rfl)
theorem dX6_number_17 : decode cX6_number 17 = .ok (.iconst 0, 1) := dk_3 (dk_at dksX6_number_0 17 rfl rfl)
theorem dX6_number_18 : decode cX6_number 18 = .ok (.istore_n 1, 1) := dk_60 (dk_at dksX6_number_0 18 rfl rfl)
theorem dX6_number_19 : decode cX6_number 19 = .ok (.iconst 0, 1) := dk_3 (dk_at dksX6_number_0 19 rfl rfl)
theorem dX6_number_20 : decode cX6_number 20 = .ok (.istore_n 2, 1) := dk_61 (dk_at dksX6_number_0 20 rfl rfl)
theorem dX6_number_21 : decode cX6_number 21 = .ok (.iload_n 1, 1) := dk_27 (dk_at dksX6_number_0 21 rfl rfl)
theorem dX6_number_22 : decode cX6_number 22 = .ok (.ifCond .eq 7, 3) := dk_153 0 7 (dk_at dksX6_number_1 0 rfl rfl)
theorem dX6_number_25 : decode cX6_number 25 = .ok (.iconst 1, 1) := dk_4 (dk_at dksX6_number_1 3 rfl rfl)
theorem dX6_number_26 : decode cX6_number 26 = .ok (.goto 4, 3) := dk_167 0 4 (dk_at dksX6_number_1 4 rfl rfl)
theorem dX6_number_29 : decode cX6_number 29 = .ok (.iconst 0, 1) := dk_3 (dk_at dksX6_number_1 7 rfl rfl)
theorem dX6_number_30 : decode cX6_number 30 = .ok (.istore_n 3, 1) := dk_62 (dk_at dksX6_number_1 8 rfl rfl)
theorem dX6_number_31 : decode cX6_number 31 = .ok (.iload_n 3, 1) := dk_29 (dk_at dksX6_number_1 9 rfl rfl)
theorem dX6_number_32 : decode cX6_number 32 = .ok (.aload_n 0, 1) := dk_42 (dk_at dksX6_number_1 10 rfl rfl)
theorem dX6_number_33 : decode cX6_number 33 = .ok (.getfield 9, 3) := dk_180 0 9 (dk_at dksX6_number_1 11 rfl rfl)
theorem dX6_number_36 : decode cX6_number 36 = .ok (.invokevirtual 26, 3) := dk_182 0 26 (dk_at dksX6_number_1 14 rfl rfl)
theorem dX6_number_39 : decode cX6_number 39 = .ok (.if_icmp .ge 26, 3) := dk_162 0 26 (dk_at dksX6_number_1 17 rfl rfl)
theorem dX6_number_42 : decode cX6_number 42 = .ok (.bipush 10, 2) := dk_16 10 (dk_at dksX6_number_1 20 rfl rfl)
theorem dX6_number_44 : decode cX6_number 44 = .ok (.iload_n 2, 1) := dk_28 (dk_at dksX6_number_1 22 rfl rfl)
theorem dX6_number_45 : decode cX6_number 45 = .ok (.imul, 1) := dk_104 (dk_at dksX6_number_1 23 rfl rfl)
theorem dX6_number_46 : decode cX6_number 46 = .ok (.aload_n 0, 1) := dk_42 (dk_at dksX6_number_2 0 rfl rfl)
theorem dX6_number_47 : decode cX6_number 47 = .ok (.getfield 9, 3) := dk_180 0 9 (dk_at dksX6_number_2 1 rfl rfl)
theorem dX6_number_50 : decode cX6_number 50 = .ok (.iload_n 3, 1) := dk_29 (dk_at dksX6_number_2 4 rfl rfl)
theorem dX6_number_51 : decode cX6_number 51 = .ok (.invokevirtual 32, 3) := dk_182 0 32 (dk_at dksX6_number_2 5 rfl rfl)
theorem dX6_number_54 : decode cX6_number 54 = .ok (.iadd, 1) := dk_96 (dk_at dksX6_number_2 8 rfl rfl)
theorem dX6_number_55 : decode cX6_number 55 = .ok (.bipush 48, 2) := dk_16 48 (dk_at dksX6_number_2 9 rfl rfl)
theorem dX6_number_57 : decode cX6_number 57 = .ok (.isub, 1) := dk_100 (dk_at dksX6_number_2 11 rfl rfl)
theorem dX6_number_58 : decode cX6_number 58 = .ok (.istore_n 2, 1) := dk_61 (dk_at dksX6_number_2 12 rfl rfl)
theorem dX6_number_59 : decode cX6_number 59 = .ok (.iinc 3 1, 3) := dk_132 3 1 (dk_at dksX6_number_2 13 rfl rfl)
theorem dX6_number_62 : decode cX6_number 62 = .ok (.goto (-31), 3) := dk_167 255 225 (dk_at dksX6_number_2 16 rfl rfl)
theorem dX6_number_65 : decode cX6_number 65 = .ok (.iload_n 1, 1) := dk_27 (dk_at dksX6_number_2 19 rfl rfl)
theorem dX6_number_66 : decode cX6_number 66 = .ok (.ifCond .eq 8, 3) := dk_153 0 8 (dk_at dksX6_number_2 20 rfl rfl)
theorem dX6_number_69 : decode cX6_number 69 = .ok (.iload_n 2, 1) := dk_28 (dk_at dksX6_number_2 23 rfl rfl)
theorem dX6_number_70 : decode cX6_number 70 = .ok (.ineg, 1) := dk_116 (dk_at dksX6_number_3 0 rfl rfl)
theorem dX6_number_71 : decode cX6_number 71 = .ok (.goto 4, 3) := dk_167 0 4 (dk_at dksX6_number_3 1 rfl rfl)
theorem dX6_number_74 : decode cX6_number 74 = .ok (.iload_n 2, 1) := dk_28 (dk_at dksX6_number_3 4 rfl rfl)
theorem dX6_number_75 : decode cX6_number 75 = .ok (.ireturn, 1) := dk_172 (dk_at dksX6_number_3 5 rfl rfl)
abbrev cX6_init : ByteArray := prog_14_method_1_code
def yX6_init : MethodName := ⟨RX6, "<init>", "(Ljava/lang/String;)V"⟩
def dkwX6_init_1 : List UInt8 := [184, 0, 19, 153, 0, 7, 4, 167, 0, 4, 3, 181, 0, 22, 177]
abbrev dktX6_init_1 : List UInt8 := dkwX6_init_1 ++ []
def dkwX6_init_0 : List UInt8 := [42, 183, 0, 3, 42, 43, 181, 0, 9, 42, 43, 184, 0, 15, 153, 0, 7, 5, 167, 0, 15, 43]
abbrev dktX6_init_0 : List UInt8 := dkwX6_init_0 ++ dktX6_init_1
theorem dksX6_init_0 : cX6_init.data.toList.drop 0 = dktX6_init_0 := by decide +kernel
theorem dksX6_init_1 : cX6_init.data.toList.drop 22 = dktX6_init_1 := dk_seg dksX6_init_0 22 rfl rfl
theorem dX6_init_0 : decode cX6_init 0 = .ok (.aload_n 0, 1) := dk_42 (dk_at dksX6_init_0 0 rfl rfl)
theorem dX6_init_1 : decode cX6_init 1 = .ok (.invokespecial 3, 3) := dk_183 0 3 (dk_at dksX6_init_0 1 rfl rfl)
theorem dX6_init_4 : decode cX6_init 4 = .ok (.aload_n 0, 1) := dk_42 (dk_at dksX6_init_0 4 rfl rfl)
theorem dX6_init_5 : decode cX6_init 5 = .ok (.aload_n 1, 1) := dk_43 (dk_at dksX6_init_0 5 rfl rfl)
theorem dX6_init_6 : decode cX6_init 6 = .ok (.putfield 9, 3) := dk_181 0 9 (dk_at dksX6_init_0 6 rfl rfl)
theorem dX6_init_9 : decode cX6_init 9 = .ok (.aload_n 0, 1) := dk_42 (dk_at dksX6_init_0 9 rfl rfl)
theorem dX6_init_10 : decode cX6_init 10 = .ok (.aload_n 1, 1) := dk_43 (dk_at dksX6_init_0 10 rfl rfl)
theorem dX6_init_11 : decode cX6_init 11 = .ok (.invokestatic 15, 3) := dk_184 0 15 (dk_at dksX6_init_0 11 rfl rfl)
theorem dX6_init_14 : decode cX6_init 14 = .ok (.ifCond .eq 7, 3) := dk_153 0 7 (dk_at dksX6_init_0 14 rfl rfl)
theorem dX6_init_17 : decode cX6_init 17 = .ok (.iconst 2, 1) := dk_5 (dk_at dksX6_init_0 17 rfl rfl)
theorem dX6_init_18 : decode cX6_init 18 = .ok (.goto 15, 3) := dk_167 0 15 (dk_at dksX6_init_0 18 rfl rfl)
theorem dX6_init_21 : decode cX6_init 21 = .ok (.aload_n 1, 1) := dk_43 (dk_at dksX6_init_0 21 rfl rfl)
theorem dX6_init_22 : decode cX6_init 22 = .ok (.invokestatic 19, 3) := dk_184 0 19 (dk_at dksX6_init_1 0 rfl rfl)
theorem dX6_init_25 : decode cX6_init 25 = .ok (.ifCond .eq 7, 3) := dk_153 0 7 (dk_at dksX6_init_1 3 rfl rfl)
theorem dX6_init_28 : decode cX6_init 28 = .ok (.iconst 1, 1) := dk_4 (dk_at dksX6_init_1 6 rfl rfl)
theorem dX6_init_29 : decode cX6_init 29 = .ok (.goto 4, 3) := dk_167 0 4 (dk_at dksX6_init_1 7 rfl rfl)
theorem dX6_init_32 : decode cX6_init 32 = .ok (.iconst 0, 1) := dk_3 (dk_at dksX6_init_1 10 rfl rfl)
theorem dX6_init_33 : decode cX6_init 33 = .ok (.putfield 22, 3) := dk_181 0 22 (dk_at dksX6_init_1 11 rfl rfl)
theorem dX6_init_36 : decode cX6_init 36 = .ok (.return_, 1) := dk_177 (dk_at dksX6_init_1 14 rfl rfl)
abbrev cX6_isNumber : ByteArray := prog_14_method_5_code
def yX6_isNumber : MethodName := ⟨RX6, "isNumber", "(Ljava/lang/String;)Z"⟩
def dkwX6_isNumber_4 : List UInt8 := [160, 0, 11, 27, 154, 0, 7, 4, 167, 0, 4, 3, 172]
abbrev dktX6_isNumber_4 : List UInt8 := dkwX6_isNumber_4 ++ []
def dkwX6_isNumber_3 : List UInt8 := [16, 48, 160, 0, 7, 4, 167, 0, 4, 3, 54, 4, 29, 153, 0, 21, 21, 4, 153, 0, 12, 28, 4]
abbrev dktX6_isNumber_3 : List UInt8 := dkwX6_isNumber_3 ++ dktX6_isNumber_4
def dkwX6_isNumber_2 : List UInt8 := [182, 0, 32, 184, 0, 44, 126, 62, 132, 4, 1, 167, 255, 232, 29, 153, 0, 17, 42, 27, 182, 0, 32]
abbrev dktX6_isNumber_2 : List UInt8 := dkwX6_isNumber_2 ++ dktX6_isNumber_3
def dkwX6_isNumber_1 : List UInt8 := [4, 16, 9, 184, 0, 40, 62, 27, 54, 4, 21, 4, 42, 182, 0, 26, 162, 0, 21, 29, 42, 21, 4]
abbrev dktX6_isNumber_1 : List UInt8 := dkwX6_isNumber_1 ++ dktX6_isNumber_2
def dkwX6_isNumber_0 : List UInt8 := [42, 3, 182, 0, 32, 16, 45, 160, 0, 7, 4, 167, 0, 4, 3, 60, 42, 182, 0, 26, 27, 100, 61, 28]
abbrev dktX6_isNumber_0 : List UInt8 := dkwX6_isNumber_0 ++ dktX6_isNumber_1
theorem dksX6_isNumber_0 : cX6_isNumber.data.toList.drop 0 = dktX6_isNumber_0 := by decide +kernel
theorem dksX6_isNumber_1 : cX6_isNumber.data.toList.drop 24 = dktX6_isNumber_1 := dk_seg dksX6_isNumber_0 24 rfl rfl
theorem dksX6_isNumber_2 : cX6_isNumber.data.toList.drop 47 = dktX6_isNumber_2 := dk_seg dksX6_isNumber_1 23 rfl rfl
theorem dksX6_isNumber_3 : cX6_isNumber.data.toList.drop 70 = dktX6_isNumber_3 := dk_seg dksX6_isNumber_2 23 rfl rfl
theorem dksX6_isNumber_4 : cX6_isNumber.data.toList.drop 93 = dktX6_isNumber_4 := dk_seg dksX6_isNumber_3 23 rfl rfl
theorem dX6_isNumber_0 : decode cX6_isNumber 0 = .ok (.aload_n 0, 1) := dk_42 (dk_at dksX6_isNumber_0 0 rfl rfl)
theorem dX6_isNumber_1 : decode cX6_isNumber 1 = .ok (.iconst 0, 1) := dk_3 (dk_at dksX6_isNumber_0 1 rfl rfl)
theorem dX6_isNumber_2 : decode cX6_isNumber 2 = .ok (.invokevirtual 32, 3) := dk_182 0 32 (dk_at dksX6_isNumber_0 2 rfl rfl)
theorem dX6_isNumber_5 : decode cX6_isNumber 5 = .ok (.bipush 45, 2) := dk_16 45 (dk_at dksX6_isNumber_0 5 rfl rfl)
theorem dX6_isNumber_7 : decode cX6_isNumber 7 = .ok (.if_icmp .ne 7, 3) := dk_160 0 7 (dk_at dksX6_isNumber_0 7 rfl rfl)
theorem dX6_isNumber_10 : decode cX6_isNumber 10 = .ok (.iconst 1, 1) := dk_4 (dk_at dksX6_isNumber_0 10 rfl rfl)
theorem dX6_isNumber_11 : decode cX6_isNumber 11 = .ok (.goto 4, 3) := dk_167 0 4 (dk_at dksX6_isNumber_0 11 rfl rfl)
theorem dX6_isNumber_14 : decode cX6_isNumber 14 = .ok (.iconst 0, 1) := dk_3 (dk_at dksX6_isNumber_0 14 rfl rfl)
theorem dX6_isNumber_15 : decode cX6_isNumber 15 = .ok (.istore_n 1, 1) := dk_60 (dk_at dksX6_isNumber_0 15 rfl rfl)
theorem dX6_isNumber_16 : decode cX6_isNumber 16 = .ok (.aload_n 0, 1) := dk_42 (dk_at dksX6_isNumber_0 16 rfl rfl)
theorem dX6_isNumber_17 : decode cX6_isNumber 17 = .ok (.invokevirtual 26, 3) := dk_182 0 26 (dk_at dksX6_isNumber_0 17 rfl rfl)
theorem dX6_isNumber_20 : decode cX6_isNumber 20 = .ok (.iload_n 1, 1) := dk_27 (dk_at dksX6_isNumber_0 20 rfl rfl)
theorem dX6_isNumber_21 : decode cX6_isNumber 21 = .ok (.isub, 1) := dk_100 (dk_at dksX6_isNumber_0 21 rfl rfl)
theorem dX6_isNumber_22 : decode cX6_isNumber 22 = .ok (.istore_n 2, 1) := dk_61 (dk_at dksX6_isNumber_0 22 rfl rfl)
theorem dX6_isNumber_23 : decode cX6_isNumber 23 = .ok (.iload_n 2, 1) := dk_28 (dk_at dksX6_isNumber_0 23 rfl rfl)
theorem dX6_isNumber_24 : decode cX6_isNumber 24 = .ok (.iconst 1, 1) := dk_4 (dk_at dksX6_isNumber_1 0 rfl rfl)
theorem dX6_isNumber_25 : decode cX6_isNumber 25 = .ok (.bipush 9, 2) := dk_16 9 (dk_at dksX6_isNumber_1 1 rfl rfl)
theorem dX6_isNumber_27 : decode cX6_isNumber 27 = .ok (.invokestatic 40, 3) := dk_184 0 40 (dk_at dksX6_isNumber_1 3 rfl rfl)
theorem dX6_isNumber_30 : decode cX6_isNumber 30 = .ok (.istore_n 3, 1) := dk_62 (dk_at dksX6_isNumber_1 6 rfl rfl)
theorem dX6_isNumber_31 : decode cX6_isNumber 31 = .ok (.iload_n 1, 1) := dk_27 (dk_at dksX6_isNumber_1 7 rfl rfl)
theorem dX6_isNumber_32 : decode cX6_isNumber 32 = .ok (.istore 4, 2) := dk_54 4 (dk_at dksX6_isNumber_1 8 rfl rfl)
theorem dX6_isNumber_34 : decode cX6_isNumber 34 = .ok (.iload 4, 2) := dk_21 4 (dk_at dksX6_isNumber_1 10 rfl rfl)
theorem dX6_isNumber_36 : decode cX6_isNumber 36 = .ok (.aload_n 0, 1) := dk_42 (dk_at dksX6_isNumber_1 12 rfl rfl)
theorem dX6_isNumber_37 : decode cX6_isNumber 37 = .ok (.invokevirtual 26, 3) := dk_182 0 26 (dk_at dksX6_isNumber_1 13 rfl rfl)
theorem dX6_isNumber_40 : decode cX6_isNumber 40 = .ok (.if_icmp .ge 21, 3) := dk_162 0 21 (dk_at dksX6_isNumber_1 16 rfl rfl)
theorem dX6_isNumber_43 : decode cX6_isNumber 43 = .ok (.iload_n 3, 1) := dk_29 (dk_at dksX6_isNumber_1 19 rfl rfl)
theorem dX6_isNumber_44 : decode cX6_isNumber 44 = .ok (.aload_n 0, 1) := dk_42 (dk_at dksX6_isNumber_1 20 rfl rfl)
theorem dX6_isNumber_45 : decode cX6_isNumber 45 = .ok (.iload 4, 2) := dk_21 4 (dk_at dksX6_isNumber_1 21 rfl rfl)
theorem dX6_isNumber_47 : decode cX6_isNumber 47 = .ok (.invokevirtual 32, 3) := dk_182 0 32 (dk_at dksX6_isNumber_2 0 rfl rfl)
theorem dX6_isNumber_50 : decode cX6_isNumber 50 = .ok (.invokestatic 44, 3) := dk_184 0 44 (dk_at dksX6_isNumber_2 3 rfl rfl)
theorem dX6_isNumber_53 : decode cX6_isNumber 53 = .ok (.iand, 1) := dk_126 (dk_at dksX6_isNumber_2 6 rfl rfl)
theorem dX6_isNumber_54 : decode cX6_isNumber 54 = .ok (.istore_n 3, 1) := dk_62 (dk_at dksX6_isNumber_2 7 rfl rfl)
theorem dX6_isNumber_55 : decode cX6_isNumber 55 = .ok (.iinc 4 1, 3) := dk_132 4 1 (dk_at dksX6_isNumber_2 8 rfl rfl)
theorem dX6_isNumber_58 : decode cX6_isNumber 58 = .ok (.goto (-24), 3) := dk_167 255 232 (dk_at dksX6_isNumber_2 11 rfl rfl)
theorem dX6_isNumber_61 : decode cX6_isNumber 61 = .ok (.iload_n 3, 1) := dk_29 (dk_at dksX6_isNumber_2 14 rfl rfl)
theorem dX6_isNumber_62 : decode cX6_isNumber 62 = .ok (.ifCond .eq 17, 3) := dk_153 0 17 (dk_at dksX6_isNumber_2 15 rfl rfl)
theorem dX6_isNumber_65 : decode cX6_isNumber 65 = .ok (.aload_n 0, 1) := dk_42 (dk_at dksX6_isNumber_2 18 rfl rfl)
theorem dX6_isNumber_66 : decode cX6_isNumber 66 = .ok (.iload_n 1, 1) := dk_27 (dk_at dksX6_isNumber_2 19 rfl rfl)
theorem dX6_isNumber_67 : decode cX6_isNumber 67 = .ok (.invokevirtual 32, 3) := dk_182 0 32 (dk_at dksX6_isNumber_2 20 rfl rfl)
theorem dX6_isNumber_70 : decode cX6_isNumber 70 = .ok (.bipush 48, 2) := dk_16 48 (dk_at dksX6_isNumber_3 0 rfl rfl)
theorem dX6_isNumber_72 : decode cX6_isNumber 72 = .ok (.if_icmp .ne 7, 3) := dk_160 0 7 (dk_at dksX6_isNumber_3 2 rfl rfl)
theorem dX6_isNumber_75 : decode cX6_isNumber 75 = .ok (.iconst 1, 1) := dk_4 (dk_at dksX6_isNumber_3 5 rfl rfl)
theorem dX6_isNumber_76 : decode cX6_isNumber 76 = .ok (.goto 4, 3) := dk_167 0 4 (dk_at dksX6_isNumber_3 6 rfl rfl)
theorem dX6_isNumber_79 : decode cX6_isNumber 79 = .ok (.iconst 0, 1) := dk_3 (dk_at dksX6_isNumber_3 9 rfl rfl)
theorem dX6_isNumber_80 : decode cX6_isNumber 80 = .ok (.istore 4, 2) := dk_54 4 (dk_at dksX6_isNumber_3 10 rfl rfl)
theorem dX6_isNumber_82 : decode cX6_isNumber 82 = .ok (.iload_n 3, 1) := dk_29 (dk_at dksX6_isNumber_3 12 rfl rfl)
theorem dX6_isNumber_83 : decode cX6_isNumber 83 = .ok (.ifCond .eq 21, 3) := dk_153 0 21 (dk_at dksX6_isNumber_3 13 rfl rfl)
theorem dX6_isNumber_86 : decode cX6_isNumber 86 = .ok (.iload 4, 2) := dk_21 4 (dk_at dksX6_isNumber_3 16 rfl rfl)
theorem dX6_isNumber_88 : decode cX6_isNumber 88 = .ok (.ifCond .eq 12, 3) := dk_153 0 12 (dk_at dksX6_isNumber_3 18 rfl rfl)
theorem dX6_isNumber_91 : decode cX6_isNumber 91 = .ok (.iload_n 2, 1) := dk_28 (dk_at dksX6_isNumber_3 21 rfl rfl)
theorem dX6_isNumber_92 : decode cX6_isNumber 92 = .ok (.iconst 1, 1) := dk_4 (dk_at dksX6_isNumber_3 22 rfl rfl)
theorem dX6_isNumber_93 : decode cX6_isNumber 93 = .ok (.if_icmp .ne 11, 3) := dk_160 0 11 (dk_at dksX6_isNumber_4 0 rfl rfl)
theorem dX6_isNumber_96 : decode cX6_isNumber 96 = .ok (.iload_n 1, 1) := dk_27 (dk_at dksX6_isNumber_4 3 rfl rfl)
theorem dX6_isNumber_97 : decode cX6_isNumber 97 = .ok (.ifCond .ne 7, 3) := dk_154 0 7 (dk_at dksX6_isNumber_4 4 rfl rfl)
theorem dX6_isNumber_100 : decode cX6_isNumber 100 = .ok (.iconst 1, 1) := dk_4 (dk_at dksX6_isNumber_4 7 rfl rfl)
theorem dX6_isNumber_101 : decode cX6_isNumber 101 = .ok (.goto 4, 3) := dk_167 0 4 (dk_at dksX6_isNumber_4 8 rfl rfl)
theorem dX6_isNumber_104 : decode cX6_isNumber 104 = .ok (.iconst 0, 1) := dk_3 (dk_at dksX6_isNumber_4 11 rfl rfl)
theorem dX6_isNumber_105 : decode cX6_isNumber 105 = .ok (.ireturn, 1) := dk_172 (dk_at dksX6_isNumber_4 12 rfl rfl)
abbrev cX6_isDigit : ByteArray := prog_14_method_2_code
def yX6_isDigit : MethodName := ⟨RX6, "isDigit", "(C)Z"⟩
def dkwX6_isDigit_0 : List UInt8 := [26, 16, 48, 161, 0, 13, 26, 16, 57, 163, 0, 7, 4, 167, 0, 4, 3, 172]
abbrev dktX6_isDigit_0 : List UInt8 := dkwX6_isDigit_0 ++ []
theorem dksX6_isDigit_0 : cX6_isDigit.data.toList.drop 0 = dktX6_isDigit_0 := by decide +kernel
theorem dX6_isDigit_0 : decode cX6_isDigit 0 = .ok (.iload_n 0, 1) := dk_26 (dk_at dksX6_isDigit_0 0 rfl rfl)
theorem dX6_isDigit_1 : decode cX6_isDigit 1 = .ok (.bipush 48, 2) := dk_16 48 (dk_at dksX6_isDigit_0 1 rfl rfl)
theorem dX6_isDigit_3 : decode cX6_isDigit 3 = .ok (.if_icmp .lt 13, 3) := dk_161 0 13 (dk_at dksX6_isDigit_0 3 rfl rfl)
theorem dX6_isDigit_6 : decode cX6_isDigit 6 = .ok (.iload_n 0, 1) := dk_26 (dk_at dksX6_isDigit_0 6 rfl rfl)
theorem dX6_isDigit_7 : decode cX6_isDigit 7 = .ok (.bipush 57, 2) := dk_16 57 (dk_at dksX6_isDigit_0 7 rfl rfl)
theorem dX6_isDigit_9 : decode cX6_isDigit 9 = .ok (.if_icmp .gt 7, 3) := dk_163 0 7 (dk_at dksX6_isDigit_0 9 rfl rfl)
theorem dX6_isDigit_12 : decode cX6_isDigit 12 = .ok (.iconst 1, 1) := dk_4 (dk_at dksX6_isDigit_0 12 rfl rfl)
theorem dX6_isDigit_13 : decode cX6_isDigit 13 = .ok (.goto 4, 3) := dk_167 0 4 (dk_at dksX6_isDigit_0 13 rfl rfl)
theorem dX6_isDigit_16 : decode cX6_isDigit 16 = .ok (.iconst 0, 1) := dk_3 (dk_at dksX6_isDigit_0 16 rfl rfl)
theorem dX6_isDigit_17 : decode cX6_isDigit 17 = .ok (.ireturn, 1) := dk_172 (dk_at dksX6_isDigit_0 17 rfl rfl)
abbrev cX6_isWord : ByteArray := prog_14_method_4_code
def yX6_isWord : MethodName := ⟨RX6, "isWord", "(Ljava/lang/String;)Z"⟩
def dkwX6_isWord_1 : List UInt8 := [132, 2, 1, 167, 255, 234, 27, 172]
abbrev dktX6_isWord_1 : List UInt8 := dkwX6_isWord_1 ++ []
def dkwX6_isWord_0 : List UInt8 := [4, 60, 3, 61, 28, 42, 182, 0, 26, 162, 0, 20, 27, 42, 28, 182, 0, 32, 184, 0, 36, 126, 60]
abbrev dktX6_isWord_0 : List UInt8 := dkwX6_isWord_0 ++ dktX6_isWord_1
theorem dksX6_isWord_0 : cX6_isWord.data.toList.drop 0 = dktX6_isWord_0 := by decide +kernel
theorem dksX6_isWord_1 : cX6_isWord.data.toList.drop 23 = dktX6_isWord_1 := dk_seg dksX6_isWord_0 23 rfl rfl
theorem dX6_isWord_0 : decode cX6_isWord 0 = .ok (.iconst 1, 1) := dk_4 (dk_at dksX6_isWord_0 0 rfl rfl)
theorem dX6_isWord_1 : decode cX6_isWord 1 = .ok (.istore_n 1, 1) := dk_60 (dk_at dksX6_isWord_0 1 rfl rfl)
theorem dX6_isWord_2 : decode cX6_isWord 2 = .ok (.iconst 0, 1) := dk_3 (dk_at dksX6_isWord_0 2 rfl rfl)
theorem dX6_isWord_3 : decode cX6_isWord 3 = .ok (.istore_n 2, 1) := dk_61 (dk_at dksX6_isWord_0 3 rfl rfl)
theorem dX6_isWord_4 : decode cX6_isWord 4 = .ok (.iload_n 2, 1) := dk_28 (dk_at dksX6_isWord_0 4 rfl rfl)
theorem dX6_isWord_5 : decode cX6_isWord 5 = .ok (.aload_n 0, 1) := dk_42 (dk_at dksX6_isWord_0 5 rfl rfl)
theorem dX6_isWord_6 : decode cX6_isWord 6 = .ok (.invokevirtual 26, 3) := dk_182 0 26 (dk_at dksX6_isWord_0 6 rfl rfl)
theorem dX6_isWord_9 : decode cX6_isWord 9 = .ok (.if_icmp .ge 20, 3) := dk_162 0 20 (dk_at dksX6_isWord_0 9 rfl rfl)
theorem dX6_isWord_12 : decode cX6_isWord 12 = .ok (.iload_n 1, 1) := dk_27 (dk_at dksX6_isWord_0 12 rfl rfl)
theorem dX6_isWord_13 : decode cX6_isWord 13 = .ok (.aload_n 0, 1) := dk_42 (dk_at dksX6_isWord_0 13 rfl rfl)
theorem dX6_isWord_14 : decode cX6_isWord 14 = .ok (.iload_n 2, 1) := dk_28 (dk_at dksX6_isWord_0 14 rfl rfl)
theorem dX6_isWord_15 : decode cX6_isWord 15 = .ok (.invokevirtual 32, 3) := dk_182 0 32 (dk_at dksX6_isWord_0 15 rfl rfl)
theorem dX6_isWord_18 : decode cX6_isWord 18 = .ok (.invokestatic 36, 3) := dk_184 0 36 (dk_at dksX6_isWord_0 18 rfl rfl)
theorem dX6_isWord_21 : decode cX6_isWord 21 = .ok (.iand, 1) := dk_126 (dk_at dksX6_isWord_0 21 rfl rfl)
theorem dX6_isWord_22 : decode cX6_isWord 22 = .ok (.istore_n 1, 1) := dk_60 (dk_at dksX6_isWord_0 22 rfl rfl)
theorem dX6_isWord_23 : decode cX6_isWord 23 = .ok (.iinc 2 1, 3) := dk_132 2 1 (dk_at dksX6_isWord_1 0 rfl rfl)
theorem dX6_isWord_26 : decode cX6_isWord 26 = .ok (.goto (-22), 3) := dk_167 255 234 (dk_at dksX6_isWord_1 3 rfl rfl)
theorem dX6_isWord_29 : decode cX6_isWord 29 = .ok (.iload_n 1, 1) := dk_27 (dk_at dksX6_isWord_1 6 rfl rfl)
theorem dX6_isWord_30 : decode cX6_isWord 30 = .ok (.ireturn, 1) := dk_172 (dk_at dksX6_isWord_1 7 rfl rfl)
abbrev cX6_isLetter : ByteArray := prog_14_method_3_code
def yX6_isLetter : MethodName := ⟨RX6, "isLetter", "(C)Z"⟩
def dkwX6_isLetter_1 : List UInt8 := [4, 167, 0, 4, 3, 172]
abbrev dktX6_isLetter_1 : List UInt8 := dkwX6_isLetter_1 ++ []
def dkwX6_isLetter_0 : List UInt8 := [26, 16, 97, 161, 0, 9, 26, 16, 122, 164, 0, 15, 26, 16, 65, 161, 0, 13, 26, 16, 90, 163, 0, 7]
abbrev dktX6_isLetter_0 : List UInt8 := dkwX6_isLetter_0 ++ dktX6_isLetter_1
theorem dksX6_isLetter_0 : cX6_isLetter.data.toList.drop 0 = dktX6_isLetter_0 := by decide +kernel
theorem dksX6_isLetter_1 : cX6_isLetter.data.toList.drop 24 = dktX6_isLetter_1 := dk_seg dksX6_isLetter_0 24 rfl rfl
theorem dX6_isLetter_0 : decode cX6_isLetter 0 = .ok (.iload_n 0, 1) := dk_26 (dk_at dksX6_isLetter_0 0 rfl rfl)
theorem dX6_isLetter_1 : decode cX6_isLetter 1 = .ok (.bipush 97, 2) := dk_16 97 (dk_at dksX6_isLetter_0 1 rfl rfl)
theorem dX6_isLetter_3 : decode cX6_isLetter 3 = .ok (.if_icmp .lt 9, 3) := dk_161 0 9 (dk_at dksX6_isLetter_0 3 rfl rfl)
theorem dX6_isLetter_6 : decode cX6_isLetter 6 = .ok (.iload_n 0, 1) := dk_26 (dk_at dksX6_isLetter_0 6 rfl rfl)
theorem dX6_isLetter_7 : decode cX6_isLetter 7 = .ok (.bipush 122, 2) := dk_16 122 (dk_at dksX6_isLetter_0 7 rfl rfl)
theorem dX6_isLetter_9 : decode cX6_isLetter 9 = .ok (.if_icmp .le 15, 3) := dk_164 0 15 (dk_at dksX6_isLetter_0 9 rfl rfl)
theorem dX6_isLetter_12 : decode cX6_isLetter 12 = .ok (.iload_n 0, 1) := dk_26 (dk_at dksX6_isLetter_0 12 rfl rfl)
theorem dX6_isLetter_13 : decode cX6_isLetter 13 = .ok (.bipush 65, 2) := dk_16 65 (dk_at dksX6_isLetter_0 13 rfl rfl)
theorem dX6_isLetter_15 : decode cX6_isLetter 15 = .ok (.if_icmp .lt 13, 3) := dk_161 0 13 (dk_at dksX6_isLetter_0 15 rfl rfl)
theorem dX6_isLetter_18 : decode cX6_isLetter 18 = .ok (.iload_n 0, 1) := dk_26 (dk_at dksX6_isLetter_0 18 rfl rfl)
theorem dX6_isLetter_19 : decode cX6_isLetter 19 = .ok (.bipush 90, 2) := dk_16 90 (dk_at dksX6_isLetter_0 19 rfl rfl)
theorem dX6_isLetter_21 : decode cX6_isLetter 21 = .ok (.if_icmp .gt 7, 3) := dk_163 0 7 (dk_at dksX6_isLetter_0 21 rfl rfl)
theorem dX6_isLetter_24 : decode cX6_isLetter 24 = .ok (.iconst 1, 1) := dk_4 (dk_at dksX6_isLetter_1 0 rfl rfl)
theorem dX6_isLetter_25 : decode cX6_isLetter 25 = .ok (.goto 4, 3) := dk_167 0 4 (dk_at dksX6_isLetter_1 1 rfl rfl)
theorem dX6_isLetter_28 : decode cX6_isLetter 28 = .ok (.iconst 0, 1) := dk_3 (dk_at dksX6_isLetter_1 4 rfl rfl)
theorem dX6_isLetter_29 : decode cX6_isLetter 29 = .ok (.ireturn, 1) := dk_172 (dk_at dksX6_isLetter_1 5 rfl rfl)
theorem q123 : (Jvm.Cond.initialized "LogCompactor$Token") ∈ lw_all := lw_g (lw_at lw_m1 27 rfl) rfl
theorem q422 : (Jvm.Cond.selects "LogCompactor$Token" ({ cls := "java/lang/Object", name := "getClass", desc := "()Ljava/lang/Class;" } : Jvm.MethodName) ({ cls := "java/lang/Object", name := "getClass", desc := "()Ljava/lang/Class;" } : Jvm.MethodName)) ∈ lw_all := lw_g (lw_at lw_m2 86 rfl) rfl
theorem q593 : (Jvm.Cond.instanceMethod ({ cls := "LogCompactor$Token", name := "isLike", desc := "(LLogCompactor$Token;)Z" } : Jvm.MethodName)) ∈ lw_all := lw_g (lw_at lw_m3 17 rfl) rfl
theorem q594 : (Jvm.Cond.selects "LogCompactor$Token" ({ cls := "LogCompactor$Token", name := "isLike", desc := "(LLogCompactor$Token;)Z" } : Jvm.MethodName) ({ cls := "LogCompactor$Token", name := "isLike", desc := "(LLogCompactor$Token;)Z" } : Jvm.MethodName)) ∈ lw_all := lw_g (lw_at lw_m3 18 rfl) rfl
theorem q595 : (Jvm.Cond.code ({ cls := "LogCompactor$Token", name := "isLike", desc := "(LLogCompactor$Token;)Z" } : Jvm.MethodName) prog_14_method_7_code (2 : Nat) (Option.some Jvm.ClassFile.FieldType.boolean)) ∈ lw_all := lw_g (lw_at lw_m3 19 rfl) rfl
theorem q596 : (Jvm.Cond.methodLink "LogCompactor$Token" (47 : Nat) ({ cls := "java/lang/String", name := "equals", desc := "(Ljava/lang/Object;)Z" } : Jvm.MethodName)) ∈ lw_all := lw_g (lw_at lw_m3 20 rfl) rfl
theorem q609 : (Jvm.Cond.instanceMethod ({ cls := "LogCompactor$Token", name := "number", desc := "()I" } : Jvm.MethodName)) ∈ lw_all := lw_g (lw_at lw_m3 33 rfl) rfl
theorem q610 : (Jvm.Cond.selects "LogCompactor$Token" ({ cls := "LogCompactor$Token", name := "number", desc := "()I" } : Jvm.MethodName) ({ cls := "LogCompactor$Token", name := "number", desc := "()I" } : Jvm.MethodName)) ∈ lw_all := lw_g (lw_at lw_m3 34 rfl) rfl
theorem q611 : (Jvm.Cond.code ({ cls := "LogCompactor$Token", name := "number", desc := "()I" } : Jvm.MethodName) prog_14_method_6_code (4 : Nat) (Option.some Jvm.ClassFile.FieldType.int)) ∈ lw_all := lw_g (lw_at lw_m3 35 rfl) rfl
theorem q612 : (Jvm.Cond.methodLink "LogCompactor$Token" (32 : Nat) ({ cls := "java/lang/String", name := "charAt", desc := "(I)C" } : Jvm.MethodName)) ∈ lw_all := lw_g (lw_at lw_m3 36 rfl) rfl
theorem q648 : (Jvm.Cond.methodLink "LogCompactor$Token" (26 : Nat) ({ cls := "java/lang/String", name := "length", desc := "()I" } : Jvm.MethodName)) ∈ lw_all := lw_g (lw_at lw_m3 72 rfl) rfl
theorem q1224 : (Jvm.Cond.selects "LogCompactor$Token" ({ cls := "java/lang/Object", name := "equals", desc := "(Ljava/lang/Object;)Z" } : Jvm.MethodName) ({ cls := "java/lang/Object", name := "equals", desc := "(Ljava/lang/Object;)Z" } : Jvm.MethodName)) ∈ lw_all := lw_g (lw_at lw_m5 168 rfl) rfl
theorem q1339 : (Jvm.Cond.instantiable "LogCompactor$Token" (2 : Nat)) ∈ lw_all := lw_g (lw_at lw_m6 43 rfl) rfl
theorem q1365 : (Jvm.Cond.instanceMethod ({ cls := "LogCompactor$Token", name := "<init>", desc := "(Ljava/lang/String;)V" } : Jvm.MethodName)) ∈ lw_all := lw_g (lw_at lw_m6 69 rfl) rfl
theorem q1366 : (Jvm.Cond.code ({ cls := "LogCompactor$Token", name := "<init>", desc := "(Ljava/lang/String;)V" } : Jvm.MethodName) prog_14_method_1_code (2 : Nat) (Option.none : Option Jvm.ClassFile.FieldType)) ∈ lw_all := lw_g (lw_at lw_m6 70 rfl) rfl
theorem q1367 : (Jvm.Cond.methodLink "LogCompactor$Token" (3 : Nat) ({ cls := "java/lang/Object", name := "<init>", desc := "()V" } : Jvm.MethodName)) ∈ lw_all := lw_g (lw_at lw_m6 71 rfl) rfl
theorem q1368 : (Jvm.Cond.methodLink "LogCompactor$Token" (15 : Nat) ({ cls := "LogCompactor$Token", name := "isNumber", desc := "(Ljava/lang/String;)Z" } : Jvm.MethodName)) ∈ lw_all := lw_g (lw_at lw_m6 72 rfl) rfl
theorem q1369 : (Jvm.Cond.static ({ cls := "LogCompactor$Token", name := "isNumber", desc := "(Ljava/lang/String;)Z" } : Jvm.MethodName)) ∈ lw_all := lw_g (lw_at lw_m6 73 rfl) rfl
theorem q1370 : (Jvm.Cond.code ({ cls := "LogCompactor$Token", name := "isNumber", desc := "(Ljava/lang/String;)Z" } : Jvm.MethodName) prog_14_method_5_code (5 : Nat) (Option.some Jvm.ClassFile.FieldType.boolean)) ∈ lw_all := lw_g (lw_at lw_m6 74 rfl) rfl
theorem q1371 : (Jvm.Cond.methodLinkNest "LogCompactor$Token" (40 : Nat) ({ cls := "LogCompactor", name := "inRange", desc := "(III)Z" } : Jvm.MethodName) "LogCompactor") ∈ lw_tbl := lw_at lw_m6 75 rfl
theorem q1372 : (Jvm.Cond.methodLink "LogCompactor$Token" (44 : Nat) ({ cls := "LogCompactor$Token", name := "isDigit", desc := "(C)Z" } : Jvm.MethodName)) ∈ lw_all := lw_g (lw_at lw_m6 76 rfl) rfl
theorem q1373 : (Jvm.Cond.static ({ cls := "LogCompactor$Token", name := "isDigit", desc := "(C)Z" } : Jvm.MethodName)) ∈ lw_all := lw_g (lw_at lw_m6 77 rfl) rfl
theorem q1374 : (Jvm.Cond.code ({ cls := "LogCompactor$Token", name := "isDigit", desc := "(C)Z" } : Jvm.MethodName) prog_14_method_2_code (1 : Nat) (Option.some Jvm.ClassFile.FieldType.boolean)) ∈ lw_all := lw_g (lw_at lw_m6 78 rfl) rfl
theorem q1375 : (Jvm.Cond.methodLink "LogCompactor$Token" (19 : Nat) ({ cls := "LogCompactor$Token", name := "isWord", desc := "(Ljava/lang/String;)Z" } : Jvm.MethodName)) ∈ lw_all := lw_g (lw_at lw_m6 79 rfl) rfl
theorem q1376 : (Jvm.Cond.static ({ cls := "LogCompactor$Token", name := "isWord", desc := "(Ljava/lang/String;)Z" } : Jvm.MethodName)) ∈ lw_all := lw_g (lw_at lw_m6 80 rfl) rfl
theorem q1377 : (Jvm.Cond.code ({ cls := "LogCompactor$Token", name := "isWord", desc := "(Ljava/lang/String;)Z" } : Jvm.MethodName) prog_14_method_4_code (3 : Nat) (Option.some Jvm.ClassFile.FieldType.boolean)) ∈ lw_all := lw_g (lw_at lw_m6 81 rfl) rfl
theorem q1378 : (Jvm.Cond.methodLink "LogCompactor$Token" (36 : Nat) ({ cls := "LogCompactor$Token", name := "isLetter", desc := "(C)Z" } : Jvm.MethodName)) ∈ lw_all := lw_g (lw_at lw_m6 82 rfl) rfl
theorem q1379 : (Jvm.Cond.static ({ cls := "LogCompactor$Token", name := "isLetter", desc := "(C)Z" } : Jvm.MethodName)) ∈ lw_all := lw_g (lw_at lw_m6 83 rfl) rfl
theorem q1380 : (Jvm.Cond.code ({ cls := "LogCompactor$Token", name := "isLetter", desc := "(C)Z" } : Jvm.MethodName) prog_14_method_3_code (1 : Nat) (Option.some Jvm.ClassFile.FieldType.boolean)) ∈ lw_all := lw_g (lw_at lw_m6 84 rfl) rfl
theorem q1381 : (Jvm.Cond.fieldLink "LogCompactor$Token" (9 : Nat) "LogCompactor$Token" "text" "Ljava/lang/String;") ∈ lw_all := lw_g (lw_at lw_m6 85 rfl) rfl
theorem q1387 : (Jvm.Cond.fieldLink "LogCompactor$Token" (22 : Nat) "LogCompactor$Token" "type" "I") ∈ lw_all := lw_g (lw_at lw_m6 91 rfl) rfl
theorem q1391 : (Jvm.Cond.laysFinal "LogCompactor$Token" "LogCompactor$Token" "text" "Ljava/lang/String;") ∈ lw_all := lw_g (lw_at lw_m6 95 rfl) rfl
theorem q1392 : (Jvm.Cond.soleField "LogCompactor$Token" "text") ∈ lw_all := lw_g (lw_at lw_m6 96 rfl) rfl
theorem q1393 : (Jvm.Cond.laysFinal "LogCompactor$Token" "LogCompactor$Token" "type" "I") ∈ lw_all := lw_g (lw_at lw_m6 97 rfl) rfl
theorem q1394 : (Jvm.Cond.soleField "LogCompactor$Token" "type") ∈ lw_all := lw_g (lw_at lw_m6 98 rfl) rfl
theorem q1395 : (Jvm.Cond.superclass "LogCompactor$Token" "java/lang/Object") ∈ lw_all := lw_g (lw_at lw_m6 99 rfl) rfl
theorem q2325 : (Jvm.Cond.castable "LogCompactor$Token" "java/lang/Object") ∈ lw_tbl := lw_at lw_m10 69 rfl
theorem in_X6 : ∀ w ∈ wsX60, w ∈ lw_all := lw_in wsX60 [1391, 1393] (by decide +kernel) (by decide +kernel)
/-! LogCompactor$Template -/
set_option maxRecDepth 100000
def RX7 : String := "LogCompactor$Template"
def TX7 : u_T := fun k => match k with
  | 0 => ("LogCompactor$Template", "gaps", "Ljava/util/ArrayList;", true)
  | 1 => ("LogCompactor$Template", "slots", "Ljava/util/ArrayList;", true)
  | _ => ("LogCompactor$Template", "rows", "Ljava/util/ArrayList;", true)
def tyX7 : Nat → FieldType := fun k => match k with
  | 0 => .object "java/util/ArrayList"
  | 1 => .object "java/util/ArrayList"
  | _ => .object "java/util/ArrayList"
abbrev wsX70 : List Cond := u_ws RX7 TX7 3
theorem nmX7 : ∀ a, a < 3 → ∀ b, b < 3 → a ≠ b → (TX7 a).2.1 ≠ (TX7 b).2.1 := by decide +kernel
theorem tyX7_ok : ∀ k, k < 3 → parseFieldDescriptor (TX7 k).2.2.1 = some (tyX7 k) := by decide +kernel
abbrev cX7_isForm : ByteArray := prog_11_method_4_code
def yX7_isForm : MethodName := ⟨RX7, "isForm", "(Ljava/util/ArrayList;)Z"⟩
def dkwX7_isForm_3 : List UInt8 := [167, 0, 4, 3, 61, 132, 3, 1, 167, 255, 200, 28, 172]
abbrev dktX7_isForm_3 : List UInt8 := dkwX7_isForm_3 ++ []
def dkwX7_isForm_2 : List UInt8 := [182, 0, 30, 54, 4, 21, 4, 43, 29, 182, 0, 24, 192, 0, 28, 182, 0, 30, 160, 0, 7, 4]
abbrev dktX7_isForm_2 : List UInt8 := dkwX7_isForm_2 ++ dktX7_isForm_3
def dkwX7_isForm_1 : List UInt8 := [180, 0, 21, 182, 0, 40, 162, 0, 51, 28, 153, 0, 47, 42, 180, 0, 21, 29, 182, 0, 24, 192, 0, 28]
abbrev dktX7_isForm_1 : List UInt8 := dkwX7_isForm_1 ++ dktX7_isForm_2
def dkwX7_isForm_0 : List UInt8 := [42, 180, 0, 21, 182, 0, 40, 43, 182, 0, 40, 160, 0, 7, 4, 167, 0, 4, 3, 61, 3, 62, 29, 42]
abbrev dktX7_isForm_0 : List UInt8 := dkwX7_isForm_0 ++ dktX7_isForm_1
theorem dksX7_isForm_0 : cX7_isForm.data.toList.drop 0 = dktX7_isForm_0 := by decide +kernel
theorem dksX7_isForm_1 : cX7_isForm.data.toList.drop 24 = dktX7_isForm_1 := dk_seg dksX7_isForm_0 24 rfl rfl
theorem dksX7_isForm_2 : cX7_isForm.data.toList.drop 48 = dktX7_isForm_2 := dk_seg dksX7_isForm_1 24 rfl rfl
theorem dksX7_isForm_3 : cX7_isForm.data.toList.drop 70 = dktX7_isForm_3 := dk_seg dksX7_isForm_2 22 rfl rfl
theorem dX7_isForm_0 : decode cX7_isForm 0 = .ok (.aload_n 0, 1) := dk_42 (dk_at dksX7_isForm_0 0 rfl rfl)
theorem dX7_isForm_1 : decode cX7_isForm 1 = .ok (.getfield 21, 3) := dk_180 0 21 (dk_at dksX7_isForm_0 1 rfl rfl)
theorem dX7_isForm_4 : decode cX7_isForm 4 = .ok (.invokevirtual 40, 3) := dk_182 0 40 (dk_at dksX7_isForm_0 4 rfl rfl)
theorem dX7_isForm_7 : decode cX7_isForm 7 = .ok (.aload_n 1, 1) := dk_43 (dk_at dksX7_isForm_0 7 rfl rfl)
theorem dX7_isForm_8 : decode cX7_isForm 8 = .ok (.invokevirtual 40, 3) := dk_182 0 40 (dk_at dksX7_isForm_0 8 rfl rfl)
theorem dX7_isForm_11 : decode cX7_isForm 11 = .ok (.if_icmp .ne 7, 3) := dk_160 0 7 (dk_at dksX7_isForm_0 11 rfl rfl)
theorem dX7_isForm_14 : decode cX7_isForm 14 = .ok (.iconst 1, 1) := dk_4 (dk_at dksX7_isForm_0 14 rfl rfl)
theorem dX7_isForm_15 : decode cX7_isForm 15 = .ok (.goto 4, 3) := dk_167 0 4 (dk_at dksX7_isForm_0 15 rfl rfl)
theorem dX7_isForm_18 : decode cX7_isForm 18 = .ok (.iconst 0, 1) := dk_3 (dk_at dksX7_isForm_0 18 rfl rfl)
theorem dX7_isForm_19 : decode cX7_isForm 19 = .ok (.istore_n 2, 1) := dk_61 (dk_at dksX7_isForm_0 19 rfl rfl)
theorem dX7_isForm_20 : decode cX7_isForm 20 = .ok (.iconst 0, 1) := dk_3 (dk_at dksX7_isForm_0 20 rfl rfl)
theorem dX7_isForm_21 : decode cX7_isForm 21 = .ok (.istore_n 3, 1) := dk_62 (dk_at dksX7_isForm_0 21 rfl rfl)
theorem dX7_isForm_22 : decode cX7_isForm 22 = .ok (.iload_n 3, 1) := dk_29 (dk_at dksX7_isForm_0 22 rfl rfl)
theorem dX7_isForm_23 : decode cX7_isForm 23 = .ok (.aload_n 0, 1) := dk_42 (dk_at dksX7_isForm_0 23 rfl rfl)
theorem dX7_isForm_24 : decode cX7_isForm 24 = .ok (.getfield 21, 3) := dk_180 0 21 (dk_at dksX7_isForm_1 0 rfl rfl)
theorem dX7_isForm_27 : decode cX7_isForm 27 = .ok (.invokevirtual 40, 3) := dk_182 0 40 (dk_at dksX7_isForm_1 3 rfl rfl)
theorem dX7_isForm_30 : decode cX7_isForm 30 = .ok (.if_icmp .ge 51, 3) := dk_162 0 51 (dk_at dksX7_isForm_1 6 rfl rfl)
theorem dX7_isForm_33 : decode cX7_isForm 33 = .ok (.iload_n 2, 1) := dk_28 (dk_at dksX7_isForm_1 9 rfl rfl)
theorem dX7_isForm_34 : decode cX7_isForm 34 = .ok (.ifCond .eq 47, 3) := dk_153 0 47 (dk_at dksX7_isForm_1 10 rfl rfl)
theorem dX7_isForm_37 : decode cX7_isForm 37 = .ok (.aload_n 0, 1) := dk_42 (dk_at dksX7_isForm_1 13 rfl rfl)
theorem dX7_isForm_38 : decode cX7_isForm 38 = .ok (.getfield 21, 3) := dk_180 0 21 (dk_at dksX7_isForm_1 14 rfl rfl)
theorem dX7_isForm_41 : decode cX7_isForm 41 = .ok (.iload_n 3, 1) := dk_29 (dk_at dksX7_isForm_1 17 rfl rfl)
theorem dX7_isForm_42 : decode cX7_isForm 42 = .ok (.invokevirtual 24, 3) := dk_182 0 24 (dk_at dksX7_isForm_1 18 rfl rfl)
theorem dX7_isForm_45 : decode cX7_isForm 45 = .ok (.checkcast 28, 3) := dk_192 0 28 (dk_at dksX7_isForm_1 21 rfl rfl)
theorem dX7_isForm_48 : decode cX7_isForm 48 = .ok (.invokevirtual 30, 3) := dk_182 0 30 (dk_at dksX7_isForm_2 0 rfl rfl)
theorem dX7_isForm_51 : decode cX7_isForm 51 = .ok (.istore 4, 2) := dk_54 4 (dk_at dksX7_isForm_2 3 rfl rfl)
theorem dX7_isForm_53 : decode cX7_isForm 53 = .ok (.iload 4, 2) := dk_21 4 (dk_at dksX7_isForm_2 5 rfl rfl)
theorem dX7_isForm_55 : decode cX7_isForm 55 = .ok (.aload_n 1, 1) := dk_43 (dk_at dksX7_isForm_2 7 rfl rfl)
theorem dX7_isForm_56 : decode cX7_isForm 56 = .ok (.iload_n 3, 1) := dk_29 (dk_at dksX7_isForm_2 8 rfl rfl)
theorem dX7_isForm_57 : decode cX7_isForm 57 = .ok (.invokevirtual 24, 3) := dk_182 0 24 (dk_at dksX7_isForm_2 9 rfl rfl)
theorem dX7_isForm_60 : decode cX7_isForm 60 = .ok (.checkcast 28, 3) := dk_192 0 28 (dk_at dksX7_isForm_2 12 rfl rfl)
theorem dX7_isForm_63 : decode cX7_isForm 63 = .ok (.invokevirtual 30, 3) := dk_182 0 30 (dk_at dksX7_isForm_2 15 rfl rfl)
theorem dX7_isForm_66 : decode cX7_isForm 66 = .ok (.if_icmp .ne 7, 3) := dk_160 0 7 (dk_at dksX7_isForm_2 18 rfl rfl)
theorem dX7_isForm_69 : decode cX7_isForm 69 = .ok (.iconst 1, 1) := dk_4 (dk_at dksX7_isForm_2 21 rfl rfl)
theorem dX7_isForm_70 : decode cX7_isForm 70 = .ok (.goto 4, 3) := dk_167 0 4 (dk_at dksX7_isForm_3 0 rfl rfl)
theorem dX7_isForm_73 : decode cX7_isForm 73 = .ok (.iconst 0, 1) := dk_3 (dk_at dksX7_isForm_3 3 rfl rfl)
theorem dX7_isForm_74 : decode cX7_isForm 74 = .ok (.istore_n 2, 1) := dk_61 (dk_at dksX7_isForm_3 4 rfl rfl)
theorem dX7_isForm_75 : decode cX7_isForm 75 = .ok (.iinc 3 1, 3) := dk_132 3 1 (dk_at dksX7_isForm_3 5 rfl rfl)
theorem dX7_isForm_78 : decode cX7_isForm 78 = .ok (.goto (-56), 3) := dk_167 255 200 (dk_at dksX7_isForm_3 8 rfl rfl)
theorem dX7_isForm_81 : decode cX7_isForm 81 = .ok (.iload_n 2, 1) := dk_28 (dk_at dksX7_isForm_3 11 rfl rfl)
theorem dX7_isForm_82 : decode cX7_isForm 82 = .ok (.ireturn, 1) := dk_172 (dk_at dksX7_isForm_3 12 rfl rfl)
abbrev cX7_cost : ByteArray := prog_11_method_14_code
def yX7_cost : MethodName := ⟨RX7, "cost", "()I"⟩
def dkwX7_cost_1 : List UInt8 := [182, 0, 24, 192, 0, 54, 182, 0, 97, 96, 60, 132, 2, 1, 167, 255, 225, 27, 172]
abbrev dktX7_cost_1 : List UInt8 := dkwX7_cost_1 ++ []
def dkwX7_cost_0 : List UInt8 := [42, 182, 0, 94, 60, 3, 61, 28, 42, 180, 0, 12, 182, 0, 40, 162, 0, 26, 27, 42, 180, 0, 12, 28]
abbrev dktX7_cost_0 : List UInt8 := dkwX7_cost_0 ++ dktX7_cost_1
theorem dksX7_cost_0 : cX7_cost.data.toList.drop 0 = dktX7_cost_0 := by decide +kernel
theorem dksX7_cost_1 : cX7_cost.data.toList.drop 24 = dktX7_cost_1 := dk_seg dksX7_cost_0 24 rfl rfl
theorem dX7_cost_0 : decode cX7_cost 0 = .ok (.aload_n 0, 1) := dk_42 (dk_at dksX7_cost_0 0 rfl rfl)
theorem dX7_cost_1 : decode cX7_cost 1 = .ok (.invokevirtual 94, 3) := dk_182 0 94 (dk_at dksX7_cost_0 1 rfl rfl)
theorem dX7_cost_4 : decode cX7_cost 4 = .ok (.istore_n 1, 1) := dk_60 (dk_at dksX7_cost_0 4 rfl rfl)
theorem dX7_cost_5 : decode cX7_cost 5 = .ok (.iconst 0, 1) := dk_3 (dk_at dksX7_cost_0 5 rfl rfl)
theorem dX7_cost_6 : decode cX7_cost 6 = .ok (.istore_n 2, 1) := dk_61 (dk_at dksX7_cost_0 6 rfl rfl)
theorem dX7_cost_7 : decode cX7_cost 7 = .ok (.iload_n 2, 1) := dk_28 (dk_at dksX7_cost_0 7 rfl rfl)
theorem dX7_cost_8 : decode cX7_cost 8 = .ok (.aload_n 0, 1) := dk_42 (dk_at dksX7_cost_0 8 rfl rfl)
theorem dX7_cost_9 : decode cX7_cost 9 = .ok (.getfield 12, 3) := dk_180 0 12 (dk_at dksX7_cost_0 9 rfl rfl)
theorem dX7_cost_12 : decode cX7_cost 12 = .ok (.invokevirtual 40, 3) := dk_182 0 40 (dk_at dksX7_cost_0 12 rfl rfl)
theorem dX7_cost_15 : decode cX7_cost 15 = .ok (.if_icmp .ge 26, 3) := dk_162 0 26 (dk_at dksX7_cost_0 15 rfl rfl)
theorem dX7_cost_18 : decode cX7_cost 18 = .ok (.iload_n 1, 1) := dk_27 (dk_at dksX7_cost_0 18 rfl rfl)
theorem dX7_cost_19 : decode cX7_cost 19 = .ok (.aload_n 0, 1) := dk_42 (dk_at dksX7_cost_0 19 rfl rfl)
theorem dX7_cost_20 : decode cX7_cost 20 = .ok (.getfield 12, 3) := dk_180 0 12 (dk_at dksX7_cost_0 20 rfl rfl)
theorem dX7_cost_23 : decode cX7_cost 23 = .ok (.iload_n 2, 1) := dk_28 (dk_at dksX7_cost_0 23 rfl rfl)
theorem dX7_cost_24 : decode cX7_cost 24 = .ok (.invokevirtual 24, 3) := dk_182 0 24 (dk_at dksX7_cost_1 0 rfl rfl)
theorem dX7_cost_27 : decode cX7_cost 27 = .ok (.checkcast 54, 3) := dk_192 0 54 (dk_at dksX7_cost_1 3 rfl rfl)
theorem dX7_cost_30 : decode cX7_cost 30 = .ok (.invokevirtual 97, 3) := dk_182 0 97 (dk_at dksX7_cost_1 6 rfl rfl)
theorem dX7_cost_33 : decode cX7_cost 33 = .ok (.iadd, 1) := dk_96 (dk_at dksX7_cost_1 9 rfl rfl)
theorem dX7_cost_34 : decode cX7_cost 34 = .ok (.istore_n 1, 1) := dk_60 (dk_at dksX7_cost_1 10 rfl rfl)
theorem dX7_cost_35 : decode cX7_cost 35 = .ok (.iinc 2 1, 3) := dk_132 2 1 (dk_at dksX7_cost_1 11 rfl rfl)
theorem dX7_cost_38 : decode cX7_cost 38 = .ok (.goto (-31), 3) := dk_167 255 225 (dk_at dksX7_cost_1 14 rfl rfl)
theorem dX7_cost_41 : decode cX7_cost 41 = .ok (.iload_n 1, 1) := dk_27 (dk_at dksX7_cost_1 17 rfl rfl)
theorem dX7_cost_42 : decode cX7_cost 42 = .ok (.ireturn, 1) := dk_172 (dk_at dksX7_cost_1 18 rfl rfl)
abbrev cX7_gapSum : ByteArray := prog_11_method_13_code
def yX7_gapSum : MethodName := ⟨RX7, "gapSum", "()I"⟩
def dkwX7_gapSum_1 : List UInt8 := [192, 0, 28, 182, 0, 30, 96, 60, 132, 2, 1, 167, 255, 225, 27, 172]
abbrev dktX7_gapSum_1 : List UInt8 := dkwX7_gapSum_1 ++ []
def dkwX7_gapSum_0 : List UInt8 := [3, 60, 3, 61, 28, 42, 180, 0, 21, 182, 0, 40, 162, 0, 26, 27, 42, 180, 0, 21, 28, 182, 0, 24]
abbrev dktX7_gapSum_0 : List UInt8 := dkwX7_gapSum_0 ++ dktX7_gapSum_1
theorem dksX7_gapSum_0 : cX7_gapSum.data.toList.drop 0 = dktX7_gapSum_0 := by decide +kernel
theorem dksX7_gapSum_1 : cX7_gapSum.data.toList.drop 24 = dktX7_gapSum_1 := dk_seg dksX7_gapSum_0 24 rfl rfl
theorem dX7_gapSum_0 : decode cX7_gapSum 0 = .ok (.iconst 0, 1) := dk_3 (dk_at dksX7_gapSum_0 0 rfl rfl)
theorem dX7_gapSum_1 : decode cX7_gapSum 1 = .ok (.istore_n 1, 1) := dk_60 (dk_at dksX7_gapSum_0 1 rfl rfl)
theorem dX7_gapSum_2 : decode cX7_gapSum 2 = .ok (.iconst 0, 1) := dk_3 (dk_at dksX7_gapSum_0 2 rfl rfl)
theorem dX7_gapSum_3 : decode cX7_gapSum 3 = .ok (.istore_n 2, 1) := dk_61 (dk_at dksX7_gapSum_0 3 rfl rfl)
theorem dX7_gapSum_4 : decode cX7_gapSum 4 = .ok (.iload_n 2, 1) := dk_28 (dk_at dksX7_gapSum_0 4 rfl rfl)
theorem dX7_gapSum_5 : decode cX7_gapSum 5 = .ok (.aload_n 0, 1) := dk_42 (dk_at dksX7_gapSum_0 5 rfl rfl)
theorem dX7_gapSum_6 : decode cX7_gapSum 6 = .ok (.getfield 21, 3) := dk_180 0 21 (dk_at dksX7_gapSum_0 6 rfl rfl)
theorem dX7_gapSum_9 : decode cX7_gapSum 9 = .ok (.invokevirtual 40, 3) := dk_182 0 40 (dk_at dksX7_gapSum_0 9 rfl rfl)
theorem dX7_gapSum_12 : decode cX7_gapSum 12 = .ok (.if_icmp .ge 26, 3) := dk_162 0 26 (dk_at dksX7_gapSum_0 12 rfl rfl)
theorem dX7_gapSum_15 : decode cX7_gapSum 15 = .ok (.iload_n 1, 1) := dk_27 (dk_at dksX7_gapSum_0 15 rfl rfl)
theorem dX7_gapSum_16 : decode cX7_gapSum 16 = .ok (.aload_n 0, 1) := dk_42 (dk_at dksX7_gapSum_0 16 rfl rfl)
theorem dX7_gapSum_17 : decode cX7_gapSum 17 = .ok (.getfield 21, 3) := dk_180 0 21 (dk_at dksX7_gapSum_0 17 rfl rfl)
theorem dX7_gapSum_20 : decode cX7_gapSum 20 = .ok (.iload_n 2, 1) := dk_28 (dk_at dksX7_gapSum_0 20 rfl rfl)
theorem dX7_gapSum_21 : decode cX7_gapSum 21 = .ok (.invokevirtual 24, 3) := dk_182 0 24 (dk_at dksX7_gapSum_0 21 rfl rfl)
theorem dX7_gapSum_24 : decode cX7_gapSum 24 = .ok (.checkcast 28, 3) := dk_192 0 28 (dk_at dksX7_gapSum_1 0 rfl rfl)
theorem dX7_gapSum_27 : decode cX7_gapSum 27 = .ok (.invokevirtual 30, 3) := dk_182 0 30 (dk_at dksX7_gapSum_1 3 rfl rfl)
theorem dX7_gapSum_30 : decode cX7_gapSum 30 = .ok (.iadd, 1) := dk_96 (dk_at dksX7_gapSum_1 6 rfl rfl)
theorem dX7_gapSum_31 : decode cX7_gapSum 31 = .ok (.istore_n 1, 1) := dk_60 (dk_at dksX7_gapSum_1 7 rfl rfl)
theorem dX7_gapSum_32 : decode cX7_gapSum 32 = .ok (.iinc 2 1, 3) := dk_132 2 1 (dk_at dksX7_gapSum_1 8 rfl rfl)
theorem dX7_gapSum_35 : decode cX7_gapSum 35 = .ok (.goto (-31), 3) := dk_167 255 225 (dk_at dksX7_gapSum_1 11 rfl rfl)
theorem dX7_gapSum_38 : decode cX7_gapSum 38 = .ok (.iload_n 1, 1) := dk_27 (dk_at dksX7_gapSum_1 14 rfl rfl)
theorem dX7_gapSum_39 : decode cX7_gapSum 39 = .ok (.ireturn, 1) := dk_172 (dk_at dksX7_gapSum_1 15 rfl rfl)
abbrev cX7_merged : ByteArray := prog_11_method_10_code
def yX7_merged : MethodName := ⟨RX7, "merged", "(LLogCompactor$Template;)LLogCompactor$Template;"⟩
def dkwX7_merged_3 : List UInt8 := [180, 0, 18, 182, 0, 80, 44, 43, 180, 0, 18, 182, 0, 80, 44, 176]
abbrev dktX7_merged_3 : List UInt8 := dkwX7_merged_3 ++ []
def dkwX7_merged_2 : List UInt8 := [182, 0, 24, 192, 0, 54, 182, 0, 61, 182, 0, 43, 54, 4, 132, 3, 1, 167, 255, 208, 44, 42]
abbrev dktX7_merged_2 : List UInt8 := dkwX7_merged_2 ++ dktX7_merged_3
def dkwX7_merged_1 : List UInt8 := [162, 0, 43, 44, 180, 0, 12, 42, 180, 0, 12, 29, 182, 0, 24, 192, 0, 54, 43, 180, 0, 12, 29]
abbrev dktX7_merged_1 : List UInt8 := dkwX7_merged_1 ++ dktX7_merged_2
def dkwX7_merged_0 : List UInt8 := [187, 0, 13, 89, 42, 180, 0, 21, 183, 0, 37, 77, 3, 62, 29, 42, 180, 0, 12, 182, 0, 40]
abbrev dktX7_merged_0 : List UInt8 := dkwX7_merged_0 ++ dktX7_merged_1
theorem dksX7_merged_0 : cX7_merged.data.toList.drop 0 = dktX7_merged_0 := by decide +kernel
theorem dksX7_merged_1 : cX7_merged.data.toList.drop 22 = dktX7_merged_1 := dk_seg dksX7_merged_0 22 rfl rfl
theorem dksX7_merged_2 : cX7_merged.data.toList.drop 45 = dktX7_merged_2 := dk_seg dksX7_merged_1 23 rfl rfl
theorem dksX7_merged_3 : cX7_merged.data.toList.drop 67 = dktX7_merged_3 := dk_seg dksX7_merged_2 22 rfl rfl
theorem dX7_merged_0 : decode cX7_merged 0 = .ok (.new 13, 3) := dk_187 0 13 (dk_at dksX7_merged_0 0 rfl rfl)
theorem dX7_merged_3 : decode cX7_merged 3 = .ok (.dup, 1) := dk_89 (dk_at dksX7_merged_0 3 rfl rfl)
theorem dX7_merged_4 : decode cX7_merged 4 = .ok (.aload_n 0, 1) := dk_42 (dk_at dksX7_merged_0 4 rfl rfl)
theorem dX7_merged_5 : decode cX7_merged 5 = .ok (.getfield 21, 3) := dk_180 0 21 (dk_at dksX7_merged_0 5 rfl rfl)
theorem dX7_merged_8 : decode cX7_merged 8 = .ok (.invokespecial 37, 3) := dk_183 0 37 (dk_at dksX7_merged_0 8 rfl rfl)
theorem dX7_merged_11 : decode cX7_merged 11 = .ok (.astore_n 2, 1) := dk_77 (dk_at dksX7_merged_0 11 rfl rfl)
theorem dX7_merged_12 : decode cX7_merged 12 = .ok (.iconst 0, 1) := dk_3 (dk_at dksX7_merged_0 12 rfl rfl)
theorem dX7_merged_13 : decode cX7_merged 13 = .ok (.istore_n 3, 1) := dk_62 (dk_at dksX7_merged_0 13 rfl rfl)
theorem dX7_merged_14 : decode cX7_merged 14 = .ok (.iload_n 3, 1) := dk_29 (dk_at dksX7_merged_0 14 rfl rfl)
theorem dX7_merged_15 : decode cX7_merged 15 = .ok (.aload_n 0, 1) := dk_42 (dk_at dksX7_merged_0 15 rfl rfl)
theorem dX7_merged_16 : decode cX7_merged 16 = .ok (.getfield 12, 3) := dk_180 0 12 (dk_at dksX7_merged_0 16 rfl rfl)
theorem dX7_merged_19 : decode cX7_merged 19 = .ok (.invokevirtual 40, 3) := dk_182 0 40 (dk_at dksX7_merged_0 19 rfl rfl)
theorem dX7_merged_22 : decode cX7_merged 22 = .ok (.if_icmp .ge 43, 3) := dk_162 0 43 (dk_at dksX7_merged_1 0 rfl rfl)
theorem dX7_merged_25 : decode cX7_merged 25 = .ok (.aload_n 2, 1) := dk_44 (dk_at dksX7_merged_1 3 rfl rfl)
theorem dX7_merged_26 : decode cX7_merged 26 = .ok (.getfield 12, 3) := dk_180 0 12 (dk_at dksX7_merged_1 4 rfl rfl)
theorem dX7_merged_29 : decode cX7_merged 29 = .ok (.aload_n 0, 1) := dk_42 (dk_at dksX7_merged_1 7 rfl rfl)
theorem dX7_merged_30 : decode cX7_merged 30 = .ok (.getfield 12, 3) := dk_180 0 12 (dk_at dksX7_merged_1 8 rfl rfl)
theorem dX7_merged_33 : decode cX7_merged 33 = .ok (.iload_n 3, 1) := dk_29 (dk_at dksX7_merged_1 11 rfl rfl)
theorem dX7_merged_34 : decode cX7_merged 34 = .ok (.invokevirtual 24, 3) := dk_182 0 24 (dk_at dksX7_merged_1 12 rfl rfl)
theorem dX7_merged_37 : decode cX7_merged 37 = .ok (.checkcast 54, 3) := dk_192 0 54 (dk_at dksX7_merged_1 15 rfl rfl)
theorem dX7_merged_40 : decode cX7_merged 40 = .ok (.aload_n 1, 1) := dk_43 (dk_at dksX7_merged_1 18 rfl rfl)
theorem dX7_merged_41 : decode cX7_merged 41 = .ok (.getfield 12, 3) := dk_180 0 12 (dk_at dksX7_merged_1 19 rfl rfl)
theorem dX7_merged_44 : decode cX7_merged 44 = .ok (.iload_n 3, 1) := dk_29 (dk_at dksX7_merged_1 22 rfl rfl)
theorem dX7_merged_45 : decode cX7_merged 45 = .ok (.invokevirtual 24, 3) := dk_182 0 24 (dk_at dksX7_merged_2 0 rfl rfl)
theorem dX7_merged_48 : decode cX7_merged 48 = .ok (.checkcast 54, 3) := dk_192 0 54 (dk_at dksX7_merged_2 3 rfl rfl)
theorem dX7_merged_51 : decode cX7_merged 51 = .ok (.invokevirtual 61, 3) := dk_182 0 61 (dk_at dksX7_merged_2 6 rfl rfl)
theorem dX7_merged_54 : decode cX7_merged 54 = .ok (.invokevirtual 43, 3) := dk_182 0 43 (dk_at dksX7_merged_2 9 rfl rfl)
theorem dX7_merged_57 : decode cX7_merged 57 = .ok (.istore 4, 2) := dk_54 4 (dk_at dksX7_merged_2 12 rfl rfl)
theorem dX7_merged_59 : decode cX7_merged 59 = .ok (.iinc 3 1, 3) := dk_132 3 1 (dk_at dksX7_merged_2 14 rfl rfl)
theorem dX7_merged_62 : decode cX7_merged 62 = .ok (.goto (-48), 3) := dk_167 255 208 (dk_at dksX7_merged_2 17 rfl rfl)
theorem dX7_merged_65 : decode cX7_merged 65 = .ok (.aload_n 2, 1) := dk_44 (dk_at dksX7_merged_2 20 rfl rfl)
theorem dX7_merged_66 : decode cX7_merged 66 = .ok (.aload_n 0, 1) := dk_42 (dk_at dksX7_merged_2 21 rfl rfl)
theorem dX7_merged_67 : decode cX7_merged 67 = .ok (.getfield 18, 3) := dk_180 0 18 (dk_at dksX7_merged_3 0 rfl rfl)
theorem dX7_merged_70 : decode cX7_merged 70 = .ok (.invokevirtual 80, 3) := dk_182 0 80 (dk_at dksX7_merged_3 3 rfl rfl)
theorem dX7_merged_73 : decode cX7_merged 73 = .ok (.aload_n 2, 1) := dk_44 (dk_at dksX7_merged_3 6 rfl rfl)
theorem dX7_merged_74 : decode cX7_merged 74 = .ok (.aload_n 1, 1) := dk_43 (dk_at dksX7_merged_3 7 rfl rfl)
theorem dX7_merged_75 : decode cX7_merged 75 = .ok (.getfield 18, 3) := dk_180 0 18 (dk_at dksX7_merged_3 8 rfl rfl)
theorem dX7_merged_78 : decode cX7_merged 78 = .ok (.invokevirtual 80, 3) := dk_182 0 80 (dk_at dksX7_merged_3 11 rfl rfl)
theorem dX7_merged_81 : decode cX7_merged 81 = .ok (.aload_n 2, 1) := dk_44 (dk_at dksX7_merged_3 14 rfl rfl)
theorem dX7_merged_82 : decode cX7_merged 82 = .ok (.areturn, 1) := dk_176 (dk_at dksX7_merged_3 15 rfl rfl)
abbrev cX7_init : ByteArray := prog_11_method_1_code
def yX7_init : MethodName := ⟨RX7, "<init>", "(Ljava/util/ArrayList;)V"⟩
def dkwX7_init_1 : List UInt8 := [181, 0, 18, 42, 43, 181, 0, 21, 177]
abbrev dktX7_init_1 : List UInt8 := dkwX7_init_1 ++ []
def dkwX7_init_0 : List UInt8 := [42, 183, 0, 3, 42, 187, 0, 9, 89, 183, 0, 11, 181, 0, 12, 42, 187, 0, 9, 89, 183, 0, 11]
abbrev dktX7_init_0 : List UInt8 := dkwX7_init_0 ++ dktX7_init_1
theorem dksX7_init_0 : cX7_init.data.toList.drop 0 = dktX7_init_0 := by decide +kernel
theorem dksX7_init_1 : cX7_init.data.toList.drop 23 = dktX7_init_1 := dk_seg dksX7_init_0 23 rfl rfl
theorem dX7_init_0 : decode cX7_init 0 = .ok (.aload_n 0, 1) := dk_42 (dk_at dksX7_init_0 0 rfl rfl)
theorem dX7_init_1 : decode cX7_init 1 = .ok (.invokespecial 3, 3) := dk_183 0 3 (dk_at dksX7_init_0 1 rfl rfl)
theorem dX7_init_4 : decode cX7_init 4 = .ok (.aload_n 0, 1) := dk_42 (dk_at dksX7_init_0 4 rfl rfl)
theorem dX7_init_5 : decode cX7_init 5 = .ok (.new 9, 3) := dk_187 0 9 (dk_at dksX7_init_0 5 rfl rfl)
theorem dX7_init_8 : decode cX7_init 8 = .ok (.dup, 1) := dk_89 (dk_at dksX7_init_0 8 rfl rfl)
theorem dX7_init_9 : decode cX7_init 9 = .ok (.invokespecial 11, 3) := dk_183 0 11 (dk_at dksX7_init_0 9 rfl rfl)
theorem dX7_init_12 : decode cX7_init 12 = .ok (.putfield 12, 3) := dk_181 0 12 (dk_at dksX7_init_0 12 rfl rfl)
theorem dX7_init_15 : decode cX7_init 15 = .ok (.aload_n 0, 1) := dk_42 (dk_at dksX7_init_0 15 rfl rfl)
theorem dX7_init_16 : decode cX7_init 16 = .ok (.new 9, 3) := dk_187 0 9 (dk_at dksX7_init_0 16 rfl rfl)
theorem dX7_init_19 : decode cX7_init 19 = .ok (.dup, 1) := dk_89 (dk_at dksX7_init_0 19 rfl rfl)
theorem dX7_init_20 : decode cX7_init 20 = .ok (.invokespecial 11, 3) := dk_183 0 11 (dk_at dksX7_init_0 20 rfl rfl)
theorem dX7_init_23 : decode cX7_init 23 = .ok (.putfield 18, 3) := dk_181 0 18 (dk_at dksX7_init_1 0 rfl rfl)
theorem dX7_init_26 : decode cX7_init 26 = .ok (.aload_n 0, 1) := dk_42 (dk_at dksX7_init_1 3 rfl rfl)
theorem dX7_init_27 : decode cX7_init 27 = .ok (.aload_n 1, 1) := dk_43 (dk_at dksX7_init_1 4 rfl rfl)
theorem dX7_init_28 : decode cX7_init 28 = .ok (.putfield 21, 3) := dk_181 0 21 (dk_at dksX7_init_1 5 rfl rfl)
theorem dX7_init_31 : decode cX7_init 31 = .ok (.return_, 1) := dk_177 (dk_at dksX7_init_1 8 rfl rfl)
abbrev cX7_addRows : ByteArray := prog_11_method_8_code
def yX7_addRows : MethodName := ⟨RX7, "addRows", "(Ljava/util/ArrayList;)V"⟩
def dkwX7_addRows_3 : List UInt8 := [192, 0, 28, 182, 0, 87, 132, 2, 1, 167, 255, 181, 177]
abbrev dktX7_addRows_3 : List UInt8 := dkwX7_addRows_3 ++ []
def dkwX7_addRows_2 : List UInt8 := [182, 0, 30, 164, 0, 9, 132, 3, 255, 167, 255, 219, 42, 180, 0, 18, 29, 43, 28, 182, 0, 24]
abbrev dktX7_addRows_2 : List UInt8 := dkwX7_addRows_2 ++ dktX7_addRows_3
def dkwX7_addRows_1 : List UInt8 := [180, 0, 18, 29, 4, 100, 182, 0, 24, 192, 0, 28, 182, 0, 30, 43, 28, 182, 0, 24, 192, 0, 28]
abbrev dktX7_addRows_1 : List UInt8 := dkwX7_addRows_1 ++ dktX7_addRows_2
def dkwX7_addRows_0 : List UInt8 := [3, 61, 28, 43, 182, 0, 40, 162, 0, 73, 42, 180, 0, 18, 182, 0, 40, 62, 29, 158, 0, 39, 42]
abbrev dktX7_addRows_0 : List UInt8 := dkwX7_addRows_0 ++ dktX7_addRows_1
theorem dksX7_addRows_0 : cX7_addRows.data.toList.drop 0 = dktX7_addRows_0 := by decide +kernel
theorem dksX7_addRows_1 : cX7_addRows.data.toList.drop 23 = dktX7_addRows_1 := dk_seg dksX7_addRows_0 23 rfl rfl
theorem dksX7_addRows_2 : cX7_addRows.data.toList.drop 46 = dktX7_addRows_2 := dk_seg dksX7_addRows_1 23 rfl rfl
theorem dksX7_addRows_3 : cX7_addRows.data.toList.drop 68 = dktX7_addRows_3 := dk_seg dksX7_addRows_2 22 rfl rfl
theorem dX7_addRows_0 : decode cX7_addRows 0 = .ok (.iconst 0, 1) := dk_3 (dk_at dksX7_addRows_0 0 rfl rfl)
theorem dX7_addRows_1 : decode cX7_addRows 1 = .ok (.istore_n 2, 1) := dk_61 (dk_at dksX7_addRows_0 1 rfl rfl)
theorem dX7_addRows_2 : decode cX7_addRows 2 = .ok (.iload_n 2, 1) := dk_28 (dk_at dksX7_addRows_0 2 rfl rfl)
theorem dX7_addRows_3 : decode cX7_addRows 3 = .ok (.aload_n 1, 1) := dk_43 (dk_at dksX7_addRows_0 3 rfl rfl)
theorem dX7_addRows_4 : decode cX7_addRows 4 = .ok (.invokevirtual 40, 3) := dk_182 0 40 (dk_at dksX7_addRows_0 4 rfl rfl)
theorem dX7_addRows_7 : decode cX7_addRows 7 = .ok (.if_icmp .ge 73, 3) := dk_162 0 73 (dk_at dksX7_addRows_0 7 rfl rfl)
theorem dX7_addRows_10 : decode cX7_addRows 10 = .ok (.aload_n 0, 1) := dk_42 (dk_at dksX7_addRows_0 10 rfl rfl)
theorem dX7_addRows_11 : decode cX7_addRows 11 = .ok (.getfield 18, 3) := dk_180 0 18 (dk_at dksX7_addRows_0 11 rfl rfl)
theorem dX7_addRows_14 : decode cX7_addRows 14 = .ok (.invokevirtual 40, 3) := dk_182 0 40 (dk_at dksX7_addRows_0 14 rfl rfl)
theorem dX7_addRows_17 : decode cX7_addRows 17 = .ok (.istore_n 3, 1) := dk_62 (dk_at dksX7_addRows_0 17 rfl rfl)
theorem dX7_addRows_18 : decode cX7_addRows 18 = .ok (.iload_n 3, 1) := dk_29 (dk_at dksX7_addRows_0 18 rfl rfl)
theorem dX7_addRows_19 : decode cX7_addRows 19 = .ok (.ifCond .le 39, 3) := dk_158 0 39 (dk_at dksX7_addRows_0 19 rfl rfl)
theorem dX7_addRows_22 : decode cX7_addRows 22 = .ok (.aload_n 0, 1) := dk_42 (dk_at dksX7_addRows_0 22 rfl rfl)
theorem dX7_addRows_23 : decode cX7_addRows 23 = .ok (.getfield 18, 3) := dk_180 0 18 (dk_at dksX7_addRows_1 0 rfl rfl)
theorem dX7_addRows_26 : decode cX7_addRows 26 = .ok (.iload_n 3, 1) := dk_29 (dk_at dksX7_addRows_1 3 rfl rfl)
theorem dX7_addRows_27 : decode cX7_addRows 27 = .ok (.iconst 1, 1) := dk_4 (dk_at dksX7_addRows_1 4 rfl rfl)
theorem dX7_addRows_28 : decode cX7_addRows 28 = .ok (.isub, 1) := dk_100 (dk_at dksX7_addRows_1 5 rfl rfl)
theorem dX7_addRows_29 : decode cX7_addRows 29 = .ok (.invokevirtual 24, 3) := dk_182 0 24 (dk_at dksX7_addRows_1 6 rfl rfl)
theorem dX7_addRows_32 : decode cX7_addRows 32 = .ok (.checkcast 28, 3) := dk_192 0 28 (dk_at dksX7_addRows_1 9 rfl rfl)
theorem dX7_addRows_35 : decode cX7_addRows 35 = .ok (.invokevirtual 30, 3) := dk_182 0 30 (dk_at dksX7_addRows_1 12 rfl rfl)
theorem dX7_addRows_38 : decode cX7_addRows 38 = .ok (.aload_n 1, 1) := dk_43 (dk_at dksX7_addRows_1 15 rfl rfl)
theorem dX7_addRows_39 : decode cX7_addRows 39 = .ok (.iload_n 2, 1) := dk_28 (dk_at dksX7_addRows_1 16 rfl rfl)
theorem dX7_addRows_40 : decode cX7_addRows 40 = .ok (.invokevirtual 24, 3) := dk_182 0 24 (dk_at dksX7_addRows_1 17 rfl rfl)
theorem dX7_addRows_43 : decode cX7_addRows 43 = .ok (.checkcast 28, 3) := dk_192 0 28 (dk_at dksX7_addRows_1 20 rfl rfl)
theorem dX7_addRows_46 : decode cX7_addRows 46 = .ok (.invokevirtual 30, 3) := dk_182 0 30 (dk_at dksX7_addRows_2 0 rfl rfl)
theorem dX7_addRows_49 : decode cX7_addRows 49 = .ok (.if_icmp .le 9, 3) := dk_164 0 9 (dk_at dksX7_addRows_2 3 rfl rfl)
theorem dX7_addRows_52 : decode cX7_addRows 52 = .ok (.iinc 3 (-1), 3) := dk_132 3 255 (dk_at dksX7_addRows_2 6 rfl rfl)
theorem dX7_addRows_55 : decode cX7_addRows 55 = .ok (.goto (-37), 3) := dk_167 255 219 (dk_at dksX7_addRows_2 9 rfl rfl)
theorem dX7_addRows_58 : decode cX7_addRows 58 = .ok (.aload_n 0, 1) := dk_42 (dk_at dksX7_addRows_2 12 rfl rfl)
theorem dX7_addRows_59 : decode cX7_addRows 59 = .ok (.getfield 18, 3) := dk_180 0 18 (dk_at dksX7_addRows_2 13 rfl rfl)
theorem dX7_addRows_62 : decode cX7_addRows 62 = .ok (.iload_n 3, 1) := dk_29 (dk_at dksX7_addRows_2 16 rfl rfl)
theorem dX7_addRows_63 : decode cX7_addRows 63 = .ok (.aload_n 1, 1) := dk_43 (dk_at dksX7_addRows_2 17 rfl rfl)
theorem dX7_addRows_64 : decode cX7_addRows 64 = .ok (.iload_n 2, 1) := dk_28 (dk_at dksX7_addRows_2 18 rfl rfl)
theorem dX7_addRows_65 : decode cX7_addRows 65 = .ok (.invokevirtual 24, 3) := dk_182 0 24 (dk_at dksX7_addRows_2 19 rfl rfl)
theorem dX7_addRows_68 : decode cX7_addRows 68 = .ok (.checkcast 28, 3) := dk_192 0 28 (dk_at dksX7_addRows_3 0 rfl rfl)
theorem dX7_addRows_71 : decode cX7_addRows 71 = .ok (.invokevirtual 87, 3) := dk_182 0 87 (dk_at dksX7_addRows_3 3 rfl rfl)
theorem dX7_addRows_74 : decode cX7_addRows 74 = .ok (.iinc 2 1, 3) := dk_132 2 1 (dk_at dksX7_addRows_3 6 rfl rfl)
theorem dX7_addRows_77 : decode cX7_addRows 77 = .ok (.goto (-75), 3) := dk_167 255 181 (dk_at dksX7_addRows_3 9 rfl rfl)
theorem dX7_addRows_80 : decode cX7_addRows 80 = .ok (.return_, 1) := dk_177 (dk_at dksX7_addRows_3 12 rfl rfl)
abbrev cX7_tokenOf : ByteArray := prog_11_method_11_code
def yX7_tokenOf : MethodName := ⟨RX7, "tokenOf", "(I)I"⟩
def dkwX7_tokenOf_2 : List UInt8 := [2, 172]
abbrev dktX7_tokenOf_2 : List UInt8 := dkwX7_tokenOf_2 ++ []
def dkwX7_tokenOf_1 : List UInt8 := [192, 0, 54, 182, 0, 90, 153, 0, 12, 28, 154, 0, 5, 29, 172, 132, 2, 255, 132, 3, 1, 167, 255, 216]
abbrev dktX7_tokenOf_1 : List UInt8 := dkwX7_tokenOf_1 ++ dktX7_tokenOf_2
def dkwX7_tokenOf_0 : List UInt8 := [27, 61, 3, 62, 29, 42, 180, 0, 12, 182, 0, 40, 162, 0, 35, 42, 180, 0, 12, 29, 182, 0, 24]
abbrev dktX7_tokenOf_0 : List UInt8 := dkwX7_tokenOf_0 ++ dktX7_tokenOf_1
theorem dksX7_tokenOf_0 : cX7_tokenOf.data.toList.drop 0 = dktX7_tokenOf_0 := by decide +kernel
theorem dksX7_tokenOf_1 : cX7_tokenOf.data.toList.drop 23 = dktX7_tokenOf_1 := dk_seg dksX7_tokenOf_0 23 rfl rfl
theorem dksX7_tokenOf_2 : cX7_tokenOf.data.toList.drop 47 = dktX7_tokenOf_2 := dk_seg dksX7_tokenOf_1 24 rfl rfl
theorem dX7_tokenOf_0 : decode cX7_tokenOf 0 = .ok (.iload_n 1, 1) := dk_27 (dk_at dksX7_tokenOf_0 0 rfl rfl)
theorem dX7_tokenOf_1 : decode cX7_tokenOf 1 = .ok (.istore_n 2, 1) := dk_61 (dk_at dksX7_tokenOf_0 1 rfl rfl)
theorem dX7_tokenOf_2 : decode cX7_tokenOf 2 = .ok (.iconst 0, 1) := dk_3 (dk_at dksX7_tokenOf_0 2 rfl rfl)
theorem dX7_tokenOf_3 : decode cX7_tokenOf 3 = .ok (.istore_n 3, 1) := dk_62 (dk_at dksX7_tokenOf_0 3 rfl rfl)
theorem dX7_tokenOf_4 : decode cX7_tokenOf 4 = .ok (.iload_n 3, 1) := dk_29 (dk_at dksX7_tokenOf_0 4 rfl rfl)
theorem dX7_tokenOf_5 : decode cX7_tokenOf 5 = .ok (.aload_n 0, 1) := dk_42 (dk_at dksX7_tokenOf_0 5 rfl rfl)
theorem dX7_tokenOf_6 : decode cX7_tokenOf 6 = .ok (.getfield 12, 3) := dk_180 0 12 (dk_at dksX7_tokenOf_0 6 rfl rfl)
theorem dX7_tokenOf_9 : decode cX7_tokenOf 9 = .ok (.invokevirtual 40, 3) := dk_182 0 40 (dk_at dksX7_tokenOf_0 9 rfl rfl)
theorem dX7_tokenOf_12 : decode cX7_tokenOf 12 = .ok (.if_icmp .ge 35, 3) := dk_162 0 35 (dk_at dksX7_tokenOf_0 12 rfl rfl)
theorem dX7_tokenOf_15 : decode cX7_tokenOf 15 = .ok (.aload_n 0, 1) := dk_42 (dk_at dksX7_tokenOf_0 15 rfl rfl)
theorem dX7_tokenOf_16 : decode cX7_tokenOf 16 = .ok (.getfield 12, 3) := dk_180 0 12 (dk_at dksX7_tokenOf_0 16 rfl rfl)
theorem dX7_tokenOf_19 : decode cX7_tokenOf 19 = .ok (.iload_n 3, 1) := dk_29 (dk_at dksX7_tokenOf_0 19 rfl rfl)
theorem dX7_tokenOf_20 : decode cX7_tokenOf 20 = .ok (.invokevirtual 24, 3) := dk_182 0 24 (dk_at dksX7_tokenOf_0 20 rfl rfl)
theorem dX7_tokenOf_23 : decode cX7_tokenOf 23 = .ok (.checkcast 54, 3) := dk_192 0 54 (dk_at dksX7_tokenOf_1 0 rfl rfl)
theorem dX7_tokenOf_26 : decode cX7_tokenOf 26 = .ok (.invokevirtual 90, 3) := dk_182 0 90 (dk_at dksX7_tokenOf_1 3 rfl rfl)
theorem dX7_tokenOf_29 : decode cX7_tokenOf 29 = .ok (.ifCond .eq 12, 3) := dk_153 0 12 (dk_at dksX7_tokenOf_1 6 rfl rfl)
theorem dX7_tokenOf_32 : decode cX7_tokenOf 32 = .ok (.iload_n 2, 1) := dk_28 (dk_at dksX7_tokenOf_1 9 rfl rfl)
theorem dX7_tokenOf_33 : decode cX7_tokenOf 33 = .ok (.ifCond .ne 5, 3) := dk_154 0 5 (dk_at dksX7_tokenOf_1 10 rfl rfl)
theorem dX7_tokenOf_36 : decode cX7_tokenOf 36 = .ok (.iload_n 3, 1) := dk_29 (dk_at dksX7_tokenOf_1 13 rfl rfl)
theorem dX7_tokenOf_37 : decode cX7_tokenOf 37 = .ok (.ireturn, 1) := dk_172 (dk_at dksX7_tokenOf_1 14 rfl rfl)
theorem dX7_tokenOf_38 : decode cX7_tokenOf 38 = .ok (.iinc 2 (-1), 3) := dk_132 2 255 (dk_at dksX7_tokenOf_1 15 rfl rfl)
theorem dX7_tokenOf_41 : decode cX7_tokenOf 41 = .ok (.iinc 3 1, 3) := dk_132 3 1 (dk_at dksX7_tokenOf_1 18 rfl rfl)
theorem dX7_tokenOf_44 : decode cX7_tokenOf 44 = .ok (.goto (-40), 3) := dk_167 255 216 (dk_at dksX7_tokenOf_1 21 rfl rfl)
theorem dX7_tokenOf_47 : decode cX7_tokenOf 47 = .ok (.iconst (-1), 1) := dk_2 (dk_at dksX7_tokenOf_2 0 rfl rfl)
theorem dX7_tokenOf_48 : decode cX7_tokenOf 48 = .ok (.ireturn, 1) := dk_172 (dk_at dksX7_tokenOf_2 1 rfl rfl)
abbrev cX7_matches : ByteArray := prog_11_method_5_code
def yX7_matches : MethodName := ⟨RX7, "matches", "(LLogCompactor$Line;)Z"⟩
def dkwX7_matches_2 : List UInt8 := [192, 0, 56, 182, 0, 73, 61, 132, 3, 1, 167, 255, 212, 28, 172]
abbrev dktX7_matches_2 : List UInt8 := dkwX7_matches_2 ++ []
def dkwX7_matches_1 : List UInt8 := [153, 0, 35, 42, 180, 0, 12, 29, 182, 0, 24, 192, 0, 54, 43, 180, 0, 51, 29, 182, 0, 24]
abbrev dktX7_matches_1 : List UInt8 := dkwX7_matches_1 ++ dktX7_matches_2
def dkwX7_matches_0 : List UInt8 := [42, 43, 180, 0, 36, 182, 0, 69, 61, 3, 62, 29, 42, 180, 0, 12, 182, 0, 40, 162, 0, 39, 28]
abbrev dktX7_matches_0 : List UInt8 := dkwX7_matches_0 ++ dktX7_matches_1
theorem dksX7_matches_0 : cX7_matches.data.toList.drop 0 = dktX7_matches_0 := by decide +kernel
theorem dksX7_matches_1 : cX7_matches.data.toList.drop 23 = dktX7_matches_1 := dk_seg dksX7_matches_0 23 rfl rfl
theorem dksX7_matches_2 : cX7_matches.data.toList.drop 45 = dktX7_matches_2 := dk_seg dksX7_matches_1 22 rfl rfl
theorem dX7_matches_0 : decode cX7_matches 0 = .ok (.aload_n 0, 1) := dk_42 (dk_at dksX7_matches_0 0 rfl rfl)
theorem dX7_matches_1 : decode cX7_matches 1 = .ok (.aload_n 1, 1) := dk_43 (dk_at dksX7_matches_0 1 rfl rfl)
theorem dX7_matches_2 : decode cX7_matches 2 = .ok (.getfield 36, 3) := dk_180 0 36 (dk_at dksX7_matches_0 2 rfl rfl)
theorem dX7_matches_5 : decode cX7_matches 5 = .ok (.invokevirtual 69, 3) := dk_182 0 69 (dk_at dksX7_matches_0 5 rfl rfl)
theorem dX7_matches_8 : decode cX7_matches 8 = .ok (.istore_n 2, 1) := dk_61 (dk_at dksX7_matches_0 8 rfl rfl)
theorem dX7_matches_9 : decode cX7_matches 9 = .ok (.iconst 0, 1) := dk_3 (dk_at dksX7_matches_0 9 rfl rfl)
theorem dX7_matches_10 : decode cX7_matches 10 = .ok (.istore_n 3, 1) := dk_62 (dk_at dksX7_matches_0 10 rfl rfl)
theorem dX7_matches_11 : decode cX7_matches 11 = .ok (.iload_n 3, 1) := dk_29 (dk_at dksX7_matches_0 11 rfl rfl)
theorem dX7_matches_12 : decode cX7_matches 12 = .ok (.aload_n 0, 1) := dk_42 (dk_at dksX7_matches_0 12 rfl rfl)
theorem dX7_matches_13 : decode cX7_matches 13 = .ok (.getfield 12, 3) := dk_180 0 12 (dk_at dksX7_matches_0 13 rfl rfl)
theorem dX7_matches_16 : decode cX7_matches 16 = .ok (.invokevirtual 40, 3) := dk_182 0 40 (dk_at dksX7_matches_0 16 rfl rfl)
theorem dX7_matches_19 : decode cX7_matches 19 = .ok (.if_icmp .ge 39, 3) := dk_162 0 39 (dk_at dksX7_matches_0 19 rfl rfl)
theorem dX7_matches_22 : decode cX7_matches 22 = .ok (.iload_n 2, 1) := dk_28 (dk_at dksX7_matches_0 22 rfl rfl)
theorem dX7_matches_23 : decode cX7_matches 23 = .ok (.ifCond .eq 35, 3) := dk_153 0 35 (dk_at dksX7_matches_1 0 rfl rfl)
theorem dX7_matches_26 : decode cX7_matches 26 = .ok (.aload_n 0, 1) := dk_42 (dk_at dksX7_matches_1 3 rfl rfl)
theorem dX7_matches_27 : decode cX7_matches 27 = .ok (.getfield 12, 3) := dk_180 0 12 (dk_at dksX7_matches_1 4 rfl rfl)
theorem dX7_matches_30 : decode cX7_matches 30 = .ok (.iload_n 3, 1) := dk_29 (dk_at dksX7_matches_1 7 rfl rfl)
theorem dX7_matches_31 : decode cX7_matches 31 = .ok (.invokevirtual 24, 3) := dk_182 0 24 (dk_at dksX7_matches_1 8 rfl rfl)
theorem dX7_matches_34 : decode cX7_matches 34 = .ok (.checkcast 54, 3) := dk_192 0 54 (dk_at dksX7_matches_1 11 rfl rfl)
theorem dX7_matches_37 : decode cX7_matches 37 = .ok (.aload_n 1, 1) := dk_43 (dk_at dksX7_matches_1 14 rfl rfl)
theorem dX7_matches_38 : decode cX7_matches 38 = .ok (.getfield 51, 3) := dk_180 0 51 (dk_at dksX7_matches_1 15 rfl rfl)
theorem dX7_matches_41 : decode cX7_matches 41 = .ok (.iload_n 3, 1) := dk_29 (dk_at dksX7_matches_1 18 rfl rfl)
theorem dX7_matches_42 : decode cX7_matches 42 = .ok (.invokevirtual 24, 3) := dk_182 0 24 (dk_at dksX7_matches_1 19 rfl rfl)
theorem dX7_matches_45 : decode cX7_matches 45 = .ok (.checkcast 56, 3) := dk_192 0 56 (dk_at dksX7_matches_2 0 rfl rfl)
theorem dX7_matches_48 : decode cX7_matches 48 = .ok (.invokevirtual 73, 3) := dk_182 0 73 (dk_at dksX7_matches_2 3 rfl rfl)
theorem dX7_matches_51 : decode cX7_matches 51 = .ok (.istore_n 2, 1) := dk_61 (dk_at dksX7_matches_2 6 rfl rfl)
theorem dX7_matches_52 : decode cX7_matches 52 = .ok (.iinc 3 1, 3) := dk_132 3 1 (dk_at dksX7_matches_2 7 rfl rfl)
theorem dX7_matches_55 : decode cX7_matches 55 = .ok (.goto (-44), 3) := dk_167 255 212 (dk_at dksX7_matches_2 10 rfl rfl)
theorem dX7_matches_58 : decode cX7_matches 58 = .ok (.iload_n 2, 1) := dk_28 (dk_at dksX7_matches_2 13 rfl rfl)
theorem dX7_matches_59 : decode cX7_matches 59 = .ok (.ireturn, 1) := dk_172 (dk_at dksX7_matches_2 14 rfl rfl)
abbrev cX7_fit : ByteArray := prog_11_method_6_code
def yX7_fit : MethodName := ⟨RX7, "fit", "(LLogCompactor$Line;)I"⟩
def dkwX7_fit_2 : List UInt8 := [3, 96, 61, 132, 3, 1, 167, 255, 206, 28, 172]
abbrev dktX7_fit_2 : List UInt8 := dkwX7_fit_2 ++ []
def dkwX7_fit_1 : List UInt8 := [192, 0, 54, 43, 180, 0, 51, 29, 182, 0, 24, 192, 0, 56, 182, 0, 77, 153, 0, 7, 4, 167, 0, 4]
abbrev dktX7_fit_1 : List UInt8 := dkwX7_fit_1 ++ dktX7_fit_2
def dkwX7_fit_0 : List UInt8 := [3, 61, 3, 62, 29, 42, 180, 0, 12, 182, 0, 40, 162, 0, 45, 28, 42, 180, 0, 12, 29, 182, 0, 24]
abbrev dktX7_fit_0 : List UInt8 := dkwX7_fit_0 ++ dktX7_fit_1
theorem dksX7_fit_0 : cX7_fit.data.toList.drop 0 = dktX7_fit_0 := by decide +kernel
theorem dksX7_fit_1 : cX7_fit.data.toList.drop 24 = dktX7_fit_1 := dk_seg dksX7_fit_0 24 rfl rfl
theorem dksX7_fit_2 : cX7_fit.data.toList.drop 48 = dktX7_fit_2 := dk_seg dksX7_fit_1 24 rfl rfl
theorem dX7_fit_0 : decode cX7_fit 0 = .ok (.iconst 0, 1) := dk_3 (dk_at dksX7_fit_0 0 rfl rfl)
theorem dX7_fit_1 : decode cX7_fit 1 = .ok (.istore_n 2, 1) := dk_61 (dk_at dksX7_fit_0 1 rfl rfl)
theorem dX7_fit_2 : decode cX7_fit 2 = .ok (.iconst 0, 1) := dk_3 (dk_at dksX7_fit_0 2 rfl rfl)
theorem dX7_fit_3 : decode cX7_fit 3 = .ok (.istore_n 3, 1) := dk_62 (dk_at dksX7_fit_0 3 rfl rfl)
theorem dX7_fit_4 : decode cX7_fit 4 = .ok (.iload_n 3, 1) := dk_29 (dk_at dksX7_fit_0 4 rfl rfl)
theorem dX7_fit_5 : decode cX7_fit 5 = .ok (.aload_n 0, 1) := dk_42 (dk_at dksX7_fit_0 5 rfl rfl)
theorem dX7_fit_6 : decode cX7_fit 6 = .ok (.getfield 12, 3) := dk_180 0 12 (dk_at dksX7_fit_0 6 rfl rfl)
theorem dX7_fit_9 : decode cX7_fit 9 = .ok (.invokevirtual 40, 3) := dk_182 0 40 (dk_at dksX7_fit_0 9 rfl rfl)
theorem dX7_fit_12 : decode cX7_fit 12 = .ok (.if_icmp .ge 45, 3) := dk_162 0 45 (dk_at dksX7_fit_0 12 rfl rfl)
theorem dX7_fit_15 : decode cX7_fit 15 = .ok (.iload_n 2, 1) := dk_28 (dk_at dksX7_fit_0 15 rfl rfl)
theorem dX7_fit_16 : decode cX7_fit 16 = .ok (.aload_n 0, 1) := dk_42 (dk_at dksX7_fit_0 16 rfl rfl)
theorem dX7_fit_17 : decode cX7_fit 17 = .ok (.getfield 12, 3) := dk_180 0 12 (dk_at dksX7_fit_0 17 rfl rfl)
theorem dX7_fit_20 : decode cX7_fit 20 = .ok (.iload_n 3, 1) := dk_29 (dk_at dksX7_fit_0 20 rfl rfl)
theorem dX7_fit_21 : decode cX7_fit 21 = .ok (.invokevirtual 24, 3) := dk_182 0 24 (dk_at dksX7_fit_0 21 rfl rfl)
theorem dX7_fit_24 : decode cX7_fit 24 = .ok (.checkcast 54, 3) := dk_192 0 54 (dk_at dksX7_fit_1 0 rfl rfl)
theorem dX7_fit_27 : decode cX7_fit 27 = .ok (.aload_n 1, 1) := dk_43 (dk_at dksX7_fit_1 3 rfl rfl)
theorem dX7_fit_28 : decode cX7_fit 28 = .ok (.getfield 51, 3) := dk_180 0 51 (dk_at dksX7_fit_1 4 rfl rfl)
theorem dX7_fit_31 : decode cX7_fit 31 = .ok (.iload_n 3, 1) := dk_29 (dk_at dksX7_fit_1 7 rfl rfl)
theorem dX7_fit_32 : decode cX7_fit 32 = .ok (.invokevirtual 24, 3) := dk_182 0 24 (dk_at dksX7_fit_1 8 rfl rfl)
theorem dX7_fit_35 : decode cX7_fit 35 = .ok (.checkcast 56, 3) := dk_192 0 56 (dk_at dksX7_fit_1 11 rfl rfl)
theorem dX7_fit_38 : decode cX7_fit 38 = .ok (.invokevirtual 77, 3) := dk_182 0 77 (dk_at dksX7_fit_1 14 rfl rfl)
theorem dX7_fit_41 : decode cX7_fit 41 = .ok (.ifCond .eq 7, 3) := dk_153 0 7 (dk_at dksX7_fit_1 17 rfl rfl)
theorem dX7_fit_44 : decode cX7_fit 44 = .ok (.iconst 1, 1) := dk_4 (dk_at dksX7_fit_1 20 rfl rfl)
theorem dX7_fit_45 : decode cX7_fit 45 = .ok (.goto 4, 3) := dk_167 0 4 (dk_at dksX7_fit_1 21 rfl rfl)
theorem dX7_fit_48 : decode cX7_fit 48 = .ok (.iconst 0, 1) := dk_3 (dk_at dksX7_fit_2 0 rfl rfl)
theorem dX7_fit_49 : decode cX7_fit 49 = .ok (.iadd, 1) := dk_96 (dk_at dksX7_fit_2 1 rfl rfl)
theorem dX7_fit_50 : decode cX7_fit 50 = .ok (.istore_n 2, 1) := dk_61 (dk_at dksX7_fit_2 2 rfl rfl)
theorem dX7_fit_51 : decode cX7_fit 51 = .ok (.iinc 3 1, 3) := dk_132 3 1 (dk_at dksX7_fit_2 3 rfl rfl)
theorem dX7_fit_54 : decode cX7_fit 54 = .ok (.goto (-50), 3) := dk_167 255 206 (dk_at dksX7_fit_2 6 rfl rfl)
theorem dX7_fit_57 : decode cX7_fit 57 = .ok (.iload_n 2, 1) := dk_28 (dk_at dksX7_fit_2 9 rfl rfl)
theorem dX7_fit_58 : decode cX7_fit 58 = .ok (.ireturn, 1) := dk_172 (dk_at dksX7_fit_2 10 rfl rfl)
abbrev cX7_with : ByteArray := prog_11_method_7_code
def yX7_with : MethodName := ⟨RX7, "with", "(LLogCompactor$Line;I)LLogCompactor$Template;"⟩
def dkwX7_with_6 : List UInt8 := [182, 0, 43, 54, 4, 45, 176]
abbrev dktX7_with_6 : List UInt8 := dkwX7_with_6 ++ []
def dkwX7_with_5 : List UInt8 := [132, 4, 1, 167, 255, 153, 45, 42, 180, 0, 18, 182, 0, 80, 45, 180, 0, 18, 28, 184, 0, 83]
abbrev dktX7_with_5 : List UInt8 := dkwX7_with_5 ++ dktX7_with_6
def dkwX7_with_4 : List UInt8 := [180, 0, 51, 21, 4, 182, 0, 24, 192, 0, 56, 183, 0, 58, 182, 0, 61, 182, 0, 43, 54, 5]
abbrev dktX7_with_4 : List UInt8 := dkwX7_with_4 ++ dktX7_with_5
def dkwX7_with_3 : List UInt8 := [192, 0, 54, 167, 0, 37, 42, 180, 0, 12, 21, 4, 182, 0, 24, 192, 0, 54, 187, 0, 54, 89, 43]
abbrev dktX7_with_3 : List UInt8 := dkwX7_with_3 ++ dktX7_with_4
def dkwX7_with_2 : List UInt8 := [21, 4, 182, 0, 24, 192, 0, 56, 182, 0, 73, 153, 0, 18, 42, 180, 0, 12, 21, 4, 182, 0, 24]
abbrev dktX7_with_2 : List UInt8 := dkwX7_with_2 ++ dktX7_with_3
def dkwX7_with_1 : List UInt8 := [162, 0, 97, 45, 180, 0, 12, 42, 180, 0, 12, 21, 4, 182, 0, 24, 192, 0, 54, 43, 180, 0, 51]
abbrev dktX7_with_1 : List UInt8 := dkwX7_with_1 ++ dktX7_with_2
def dkwX7_with_0 : List UInt8 := [187, 0, 13, 89, 42, 180, 0, 21, 183, 0, 37, 78, 3, 54, 4, 21, 4, 42, 180, 0, 12, 182, 0, 40]
abbrev dktX7_with_0 : List UInt8 := dkwX7_with_0 ++ dktX7_with_1
theorem dksX7_with_0 : cX7_with.data.toList.drop 0 = dktX7_with_0 := by decide +kernel
theorem dksX7_with_1 : cX7_with.data.toList.drop 24 = dktX7_with_1 := dk_seg dksX7_with_0 24 rfl rfl
theorem dksX7_with_2 : cX7_with.data.toList.drop 47 = dktX7_with_2 := dk_seg dksX7_with_1 23 rfl rfl
theorem dksX7_with_3 : cX7_with.data.toList.drop 70 = dktX7_with_3 := dk_seg dksX7_with_2 23 rfl rfl
theorem dksX7_with_4 : cX7_with.data.toList.drop 93 = dktX7_with_4 := dk_seg dksX7_with_3 23 rfl rfl
theorem dksX7_with_5 : cX7_with.data.toList.drop 115 = dktX7_with_5 := dk_seg dksX7_with_4 22 rfl rfl
theorem dksX7_with_6 : cX7_with.data.toList.drop 137 = dktX7_with_6 := dk_seg dksX7_with_5 22 rfl rfl
theorem dX7_with_0 : decode cX7_with 0 = .ok (.new 13, 3) := dk_187 0 13 (dk_at dksX7_with_0 0 rfl rfl)
theorem dX7_with_3 : decode cX7_with 3 = .ok (.dup, 1) := dk_89 (dk_at dksX7_with_0 3 rfl rfl)
theorem dX7_with_4 : decode cX7_with 4 = .ok (.aload_n 0, 1) := dk_42 (dk_at dksX7_with_0 4 rfl rfl)
theorem dX7_with_5 : decode cX7_with 5 = .ok (.getfield 21, 3) := dk_180 0 21 (dk_at dksX7_with_0 5 rfl rfl)
theorem dX7_with_8 : decode cX7_with 8 = .ok (.invokespecial 37, 3) := dk_183 0 37 (dk_at dksX7_with_0 8 rfl rfl)
theorem dX7_with_11 : decode cX7_with 11 = .ok (.astore_n 3, 1) := dk_78 (dk_at dksX7_with_0 11 rfl rfl)
theorem dX7_with_12 : decode cX7_with 12 = .ok (.iconst 0, 1) := dk_3 (dk_at dksX7_with_0 12 rfl rfl)
theorem dX7_with_13 : decode cX7_with 13 = .ok (.istore 4, 2) := dk_54 4 (dk_at dksX7_with_0 13 rfl rfl)
theorem dX7_with_15 : decode cX7_with 15 = .ok (.iload 4, 2) := dk_21 4 (dk_at dksX7_with_0 15 rfl rfl)
theorem dX7_with_17 : decode cX7_with 17 = .ok (.aload_n 0, 1) := dk_42 (dk_at dksX7_with_0 17 rfl rfl)
theorem dX7_with_18 : decode cX7_with 18 = .ok (.getfield 12, 3) := dk_180 0 12 (dk_at dksX7_with_0 18 rfl rfl)
theorem dX7_with_21 : decode cX7_with 21 = .ok (.invokevirtual 40, 3) := dk_182 0 40 (dk_at dksX7_with_0 21 rfl rfl)
theorem dX7_with_24 : decode cX7_with 24 = .ok (.if_icmp .ge 97, 3) := dk_162 0 97 (dk_at dksX7_with_1 0 rfl rfl)
theorem dX7_with_27 : decode cX7_with 27 = .ok (.aload_n 3, 1) := dk_45 (dk_at dksX7_with_1 3 rfl rfl)
theorem dX7_with_28 : decode cX7_with 28 = .ok (.getfield 12, 3) := dk_180 0 12 (dk_at dksX7_with_1 4 rfl rfl)
theorem dX7_with_31 : decode cX7_with 31 = .ok (.aload_n 0, 1) := dk_42 (dk_at dksX7_with_1 7 rfl rfl)
theorem dX7_with_32 : decode cX7_with 32 = .ok (.getfield 12, 3) := dk_180 0 12 (dk_at dksX7_with_1 8 rfl rfl)
theorem dX7_with_35 : decode cX7_with 35 = .ok (.iload 4, 2) := dk_21 4 (dk_at dksX7_with_1 11 rfl rfl)
theorem dX7_with_37 : decode cX7_with 37 = .ok (.invokevirtual 24, 3) := dk_182 0 24 (dk_at dksX7_with_1 13 rfl rfl)
theorem dX7_with_40 : decode cX7_with 40 = .ok (.checkcast 54, 3) := dk_192 0 54 (dk_at dksX7_with_1 16 rfl rfl)
theorem dX7_with_43 : decode cX7_with 43 = .ok (.aload_n 1, 1) := dk_43 (dk_at dksX7_with_1 19 rfl rfl)
theorem dX7_with_44 : decode cX7_with 44 = .ok (.getfield 51, 3) := dk_180 0 51 (dk_at dksX7_with_1 20 rfl rfl)
theorem dX7_with_47 : decode cX7_with 47 = .ok (.iload 4, 2) := dk_21 4 (dk_at dksX7_with_2 0 rfl rfl)
theorem dX7_with_49 : decode cX7_with 49 = .ok (.invokevirtual 24, 3) := dk_182 0 24 (dk_at dksX7_with_2 2 rfl rfl)
theorem dX7_with_52 : decode cX7_with 52 = .ok (.checkcast 56, 3) := dk_192 0 56 (dk_at dksX7_with_2 5 rfl rfl)
theorem dX7_with_55 : decode cX7_with 55 = .ok (.invokevirtual 73, 3) := dk_182 0 73 (dk_at dksX7_with_2 8 rfl rfl)
theorem dX7_with_58 : decode cX7_with 58 = .ok (.ifCond .eq 18, 3) := dk_153 0 18 (dk_at dksX7_with_2 11 rfl rfl)
theorem dX7_with_61 : decode cX7_with 61 = .ok (.aload_n 0, 1) := dk_42 (dk_at dksX7_with_2 14 rfl rfl)
theorem dX7_with_62 : decode cX7_with 62 = .ok (.getfield 12, 3) := dk_180 0 12 (dk_at dksX7_with_2 15 rfl rfl)
theorem dX7_with_65 : decode cX7_with 65 = .ok (.iload 4, 2) := dk_21 4 (dk_at dksX7_with_2 18 rfl rfl)
theorem dX7_with_67 : decode cX7_with 67 = .ok (.invokevirtual 24, 3) := dk_182 0 24 (dk_at dksX7_with_2 20 rfl rfl)
theorem dX7_with_70 : decode cX7_with 70 = .ok (.checkcast 54, 3) := dk_192 0 54 (dk_at dksX7_with_3 0 rfl rfl)
theorem dX7_with_73 : decode cX7_with 73 = .ok (.goto 37, 3) := dk_167 0 37 (dk_at dksX7_with_3 3 rfl rfl)
theorem dX7_with_76 : decode cX7_with 76 = .ok (.aload_n 0, 1) := dk_42 (dk_at dksX7_with_3 6 rfl rfl)
theorem dX7_with_77 : decode cX7_with 77 = .ok (.getfield 12, 3) := dk_180 0 12 (dk_at dksX7_with_3 7 rfl rfl)
theorem dX7_with_80 : decode cX7_with 80 = .ok (.iload 4, 2) := dk_21 4 (dk_at dksX7_with_3 10 rfl rfl)
theorem dX7_with_82 : decode cX7_with 82 = .ok (.invokevirtual 24, 3) := dk_182 0 24 (dk_at dksX7_with_3 12 rfl rfl)
theorem dX7_with_85 : decode cX7_with 85 = .ok (.checkcast 54, 3) := dk_192 0 54 (dk_at dksX7_with_3 15 rfl rfl)
theorem dX7_with_88 : decode cX7_with 88 = .ok (.new 54, 3) := dk_187 0 54 (dk_at dksX7_with_3 18 rfl rfl)
theorem dX7_with_91 : decode cX7_with 91 = .ok (.dup, 1) := dk_89 (dk_at dksX7_with_3 21 rfl rfl)
theorem dX7_with_92 : decode cX7_with 92 = .ok (.aload_n 1, 1) := dk_43 (dk_at dksX7_with_3 22 rfl rfl)
theorem dX7_with_93 : decode cX7_with 93 = .ok (.getfield 51, 3) := dk_180 0 51 (dk_at dksX7_with_4 0 rfl rfl)
theorem dX7_with_96 : decode cX7_with 96 = .ok (.iload 4, 2) := dk_21 4 (dk_at dksX7_with_4 3 rfl rfl)
theorem dX7_with_98 : decode cX7_with 98 = .ok (.invokevirtual 24, 3) := dk_182 0 24 (dk_at dksX7_with_4 5 rfl rfl)
theorem dX7_with_101 : decode cX7_with 101 = .ok (.checkcast 56, 3) := dk_192 0 56 (dk_at dksX7_with_4 8 rfl rfl)
theorem dX7_with_104 : decode cX7_with 104 = .ok (.invokespecial 58, 3) := dk_183 0 58 (dk_at dksX7_with_4 11 rfl rfl)
theorem dX7_with_107 : decode cX7_with 107 = .ok (.invokevirtual 61, 3) := dk_182 0 61 (dk_at dksX7_with_4 14 rfl rfl)
theorem dX7_with_110 : decode cX7_with 110 = .ok (.invokevirtual 43, 3) := dk_182 0 43 (dk_at dksX7_with_4 17 rfl rfl)
theorem dX7_with_113 : decode cX7_with 113 = .ok (.istore 5, 2) := dk_54 5 (dk_at dksX7_with_4 20 rfl rfl)
theorem dX7_with_115 : decode cX7_with 115 = .ok (.iinc 4 1, 3) := dk_132 4 1 (dk_at dksX7_with_5 0 rfl rfl)
theorem dX7_with_118 : decode cX7_with 118 = .ok (.goto (-103), 3) := dk_167 255 153 (dk_at dksX7_with_5 3 rfl rfl)
theorem dX7_with_121 : decode cX7_with 121 = .ok (.aload_n 3, 1) := dk_45 (dk_at dksX7_with_5 6 rfl rfl)
theorem dX7_with_122 : decode cX7_with 122 = .ok (.aload_n 0, 1) := dk_42 (dk_at dksX7_with_5 7 rfl rfl)
theorem dX7_with_123 : decode cX7_with 123 = .ok (.getfield 18, 3) := dk_180 0 18 (dk_at dksX7_with_5 8 rfl rfl)
theorem dX7_with_126 : decode cX7_with 126 = .ok (.invokevirtual 80, 3) := dk_182 0 80 (dk_at dksX7_with_5 11 rfl rfl)
theorem dX7_with_129 : decode cX7_with 129 = .ok (.aload_n 3, 1) := dk_45 (dk_at dksX7_with_5 14 rfl rfl)
theorem dX7_with_130 : decode cX7_with 130 = .ok (.getfield 18, 3) := dk_180 0 18 (dk_at dksX7_with_5 15 rfl rfl)
theorem dX7_with_133 : decode cX7_with 133 = .ok (.iload_n 2, 1) := dk_28 (dk_at dksX7_with_5 18 rfl rfl)
theorem dX7_with_134 : decode cX7_with 134 = .ok (.invokestatic 83, 3) := dk_184 0 83 (dk_at dksX7_with_5 19 rfl rfl)
theorem dX7_with_137 : decode cX7_with 137 = .ok (.invokevirtual 43, 3) := dk_182 0 43 (dk_at dksX7_with_6 0 rfl rfl)
theorem dX7_with_140 : decode cX7_with 140 = .ok (.istore 4, 2) := dk_54 4 (dk_at dksX7_with_6 3 rfl rfl)
theorem dX7_with_142 : decode cX7_with 142 = .ok (.aload_n 3, 1) := dk_45 (dk_at dksX7_with_6 5 rfl rfl)
theorem dX7_with_143 : decode cX7_with 143 = .ok (.areturn, 1) := dk_176 (dk_at dksX7_with_6 6 rfl rfl)
abbrev cX7_of : ByteArray := prog_11_method_2_code
def yX7_of : MethodName := ⟨RX7, "of", "(Ljava/util/ArrayList;Ljava/util/ArrayList;)LLogCompactor$Template;"⟩
def dkwX7_of_3 : List UInt8 := [182, 0, 24, 192, 0, 34, 182, 0, 47, 132, 3, 1, 167, 255, 206, 44, 176]
abbrev dktX7_of_3 : List UInt8 := dkwX7_of_3 ++ []
def dkwX7_of_2 : List UInt8 := [182, 0, 24, 192, 0, 28, 182, 0, 43, 54, 4, 44, 42, 43, 29, 182, 0, 24, 192, 0, 28, 182, 0, 30]
abbrev dktX7_of_2 : List UInt8 := dkwX7_of_2 ++ dktX7_of_3
def dkwX7_of_1 : List UInt8 := [180, 0, 36, 183, 0, 37, 77, 3, 62, 29, 43, 182, 0, 40, 162, 0, 48, 44, 180, 0, 18, 43, 29]
abbrev dktX7_of_1 : List UInt8 := dkwX7_of_1 ++ dktX7_of_2
def dkwX7_of_0 : List UInt8 := [187, 0, 13, 89, 42, 43, 3, 182, 0, 24, 192, 0, 28, 182, 0, 30, 182, 0, 24, 192, 0, 34]
abbrev dktX7_of_0 : List UInt8 := dkwX7_of_0 ++ dktX7_of_1
theorem dksX7_of_0 : cX7_of.data.toList.drop 0 = dktX7_of_0 := by decide +kernel
theorem dksX7_of_1 : cX7_of.data.toList.drop 22 = dktX7_of_1 := dk_seg dksX7_of_0 22 rfl rfl
theorem dksX7_of_2 : cX7_of.data.toList.drop 45 = dktX7_of_2 := dk_seg dksX7_of_1 23 rfl rfl
theorem dksX7_of_3 : cX7_of.data.toList.drop 69 = dktX7_of_3 := dk_seg dksX7_of_2 24 rfl rfl
theorem dX7_of_0 : decode cX7_of 0 = .ok (.new 13, 3) := dk_187 0 13 (dk_at dksX7_of_0 0 rfl rfl)
theorem dX7_of_3 : decode cX7_of 3 = .ok (.dup, 1) := dk_89 (dk_at dksX7_of_0 3 rfl rfl)
theorem dX7_of_4 : decode cX7_of 4 = .ok (.aload_n 0, 1) := dk_42 (dk_at dksX7_of_0 4 rfl rfl)
theorem dX7_of_5 : decode cX7_of 5 = .ok (.aload_n 1, 1) := dk_43 (dk_at dksX7_of_0 5 rfl rfl)
theorem dX7_of_6 : decode cX7_of 6 = .ok (.iconst 0, 1) := dk_3 (dk_at dksX7_of_0 6 rfl rfl)
theorem dX7_of_7 : decode cX7_of 7 = .ok (.invokevirtual 24, 3) := dk_182 0 24 (dk_at dksX7_of_0 7 rfl rfl)
theorem dX7_of_10 : decode cX7_of 10 = .ok (.checkcast 28, 3) := dk_192 0 28 (dk_at dksX7_of_0 10 rfl rfl)
theorem dX7_of_13 : decode cX7_of 13 = .ok (.invokevirtual 30, 3) := dk_182 0 30 (dk_at dksX7_of_0 13 rfl rfl)
theorem dX7_of_16 : decode cX7_of 16 = .ok (.invokevirtual 24, 3) := dk_182 0 24 (dk_at dksX7_of_0 16 rfl rfl)
theorem dX7_of_19 : decode cX7_of 19 = .ok (.checkcast 34, 3) := dk_192 0 34 (dk_at dksX7_of_0 19 rfl rfl)
theorem dX7_of_22 : decode cX7_of 22 = .ok (.getfield 36, 3) := dk_180 0 36 (dk_at dksX7_of_1 0 rfl rfl)
theorem dX7_of_25 : decode cX7_of 25 = .ok (.invokespecial 37, 3) := dk_183 0 37 (dk_at dksX7_of_1 3 rfl rfl)
theorem dX7_of_28 : decode cX7_of 28 = .ok (.astore_n 2, 1) := dk_77 (dk_at dksX7_of_1 6 rfl rfl)
theorem dX7_of_29 : decode cX7_of 29 = .ok (.iconst 0, 1) := dk_3 (dk_at dksX7_of_1 7 rfl rfl)
theorem dX7_of_30 : decode cX7_of 30 = .ok (.istore_n 3, 1) := dk_62 (dk_at dksX7_of_1 8 rfl rfl)
theorem dX7_of_31 : decode cX7_of 31 = .ok (.iload_n 3, 1) := dk_29 (dk_at dksX7_of_1 9 rfl rfl)
theorem dX7_of_32 : decode cX7_of 32 = .ok (.aload_n 1, 1) := dk_43 (dk_at dksX7_of_1 10 rfl rfl)
theorem dX7_of_33 : decode cX7_of 33 = .ok (.invokevirtual 40, 3) := dk_182 0 40 (dk_at dksX7_of_1 11 rfl rfl)
theorem dX7_of_36 : decode cX7_of 36 = .ok (.if_icmp .ge 48, 3) := dk_162 0 48 (dk_at dksX7_of_1 14 rfl rfl)
theorem dX7_of_39 : decode cX7_of 39 = .ok (.aload_n 2, 1) := dk_44 (dk_at dksX7_of_1 17 rfl rfl)
theorem dX7_of_40 : decode cX7_of 40 = .ok (.getfield 18, 3) := dk_180 0 18 (dk_at dksX7_of_1 18 rfl rfl)
theorem dX7_of_43 : decode cX7_of 43 = .ok (.aload_n 1, 1) := dk_43 (dk_at dksX7_of_1 21 rfl rfl)
theorem dX7_of_44 : decode cX7_of 44 = .ok (.iload_n 3, 1) := dk_29 (dk_at dksX7_of_1 22 rfl rfl)
theorem dX7_of_45 : decode cX7_of 45 = .ok (.invokevirtual 24, 3) := dk_182 0 24 (dk_at dksX7_of_2 0 rfl rfl)
theorem dX7_of_48 : decode cX7_of 48 = .ok (.checkcast 28, 3) := dk_192 0 28 (dk_at dksX7_of_2 3 rfl rfl)
theorem dX7_of_51 : decode cX7_of 51 = .ok (.invokevirtual 43, 3) := dk_182 0 43 (dk_at dksX7_of_2 6 rfl rfl)
theorem dX7_of_54 : decode cX7_of 54 = .ok (.istore 4, 2) := dk_54 4 (dk_at dksX7_of_2 9 rfl rfl)
theorem dX7_of_56 : decode cX7_of 56 = .ok (.aload_n 2, 1) := dk_44 (dk_at dksX7_of_2 11 rfl rfl)
theorem dX7_of_57 : decode cX7_of 57 = .ok (.aload_n 0, 1) := dk_42 (dk_at dksX7_of_2 12 rfl rfl)
theorem dX7_of_58 : decode cX7_of 58 = .ok (.aload_n 1, 1) := dk_43 (dk_at dksX7_of_2 13 rfl rfl)
theorem dX7_of_59 : decode cX7_of 59 = .ok (.iload_n 3, 1) := dk_29 (dk_at dksX7_of_2 14 rfl rfl)
theorem dX7_of_60 : decode cX7_of 60 = .ok (.invokevirtual 24, 3) := dk_182 0 24 (dk_at dksX7_of_2 15 rfl rfl)
theorem dX7_of_63 : decode cX7_of 63 = .ok (.checkcast 28, 3) := dk_192 0 28 (dk_at dksX7_of_2 18 rfl rfl)
theorem dX7_of_66 : decode cX7_of 66 = .ok (.invokevirtual 30, 3) := dk_182 0 30 (dk_at dksX7_of_2 21 rfl rfl)
theorem dX7_of_69 : decode cX7_of 69 = .ok (.invokevirtual 24, 3) := dk_182 0 24 (dk_at dksX7_of_3 0 rfl rfl)
theorem dX7_of_72 : decode cX7_of 72 = .ok (.checkcast 34, 3) := dk_192 0 34 (dk_at dksX7_of_3 3 rfl rfl)
theorem dX7_of_75 : decode cX7_of 75 = .ok (.invokevirtual 47, 3) := dk_182 0 47 (dk_at dksX7_of_3 6 rfl rfl)
theorem dX7_of_78 : decode cX7_of 78 = .ok (.iinc 3 1, 3) := dk_132 3 1 (dk_at dksX7_of_3 9 rfl rfl)
theorem dX7_of_81 : decode cX7_of 81 = .ok (.goto (-50), 3) := dk_167 255 206 (dk_at dksX7_of_3 12 rfl rfl)
theorem dX7_of_84 : decode cX7_of 84 = .ok (.aload_n 2, 1) := dk_44 (dk_at dksX7_of_3 15 rfl rfl)
theorem dX7_of_85 : decode cX7_of 85 = .ok (.areturn, 1) := dk_176 (dk_at dksX7_of_3 16 rfl rfl)
abbrev cX7_widen : ByteArray := prog_11_method_3_code
def yX7_widen : MethodName := ⟨RX7, "widen", "(LLogCompactor$Line;)V"⟩
def dkwX7_widen_4 : List UInt8 := [177]
abbrev dktX7_widen_4 : List UInt8 := dkwX7_widen_4 ++ []
def dkwX7_widen_3 : List UInt8 := [182, 0, 24, 192, 0, 54, 45, 182, 0, 61, 182, 0, 65, 192, 0, 54, 58, 4, 132, 2, 1, 167, 255, 171]
abbrev dktX7_widen_3 : List UInt8 := dkwX7_widen_3 ++ dktX7_widen_4
def dkwX7_widen_2 : List UInt8 := [180, 0, 12, 45, 182, 0, 43, 54, 4, 167, 0, 31, 42, 180, 0, 12, 28, 42, 180, 0, 12, 28]
abbrev dktX7_widen_2 : List UInt8 := dkwX7_widen_2 ++ dktX7_widen_3
def dkwX7_widen_1 : List UInt8 := [182, 0, 24, 192, 0, 56, 183, 0, 58, 78, 42, 180, 0, 12, 182, 0, 40, 28, 160, 0, 16, 42]
abbrev dktX7_widen_1 : List UInt8 := dkwX7_widen_1 ++ dktX7_widen_2
def dkwX7_widen_0 : List UInt8 := [3, 61, 28, 43, 180, 0, 51, 182, 0, 40, 162, 0, 80, 187, 0, 54, 89, 43, 180, 0, 51, 28]
abbrev dktX7_widen_0 : List UInt8 := dkwX7_widen_0 ++ dktX7_widen_1
theorem dksX7_widen_0 : cX7_widen.data.toList.drop 0 = dktX7_widen_0 := by decide +kernel
theorem dksX7_widen_1 : cX7_widen.data.toList.drop 22 = dktX7_widen_1 := dk_seg dksX7_widen_0 22 rfl rfl
theorem dksX7_widen_2 : cX7_widen.data.toList.drop 44 = dktX7_widen_2 := dk_seg dksX7_widen_1 22 rfl rfl
theorem dksX7_widen_3 : cX7_widen.data.toList.drop 66 = dktX7_widen_3 := dk_seg dksX7_widen_2 22 rfl rfl
theorem dksX7_widen_4 : cX7_widen.data.toList.drop 90 = dktX7_widen_4 := dk_seg dksX7_widen_3 24 rfl rfl
theorem dX7_widen_0 : decode cX7_widen 0 = .ok (.iconst 0, 1) := dk_3 (dk_at dksX7_widen_0 0 rfl rfl)
theorem dX7_widen_1 : decode cX7_widen 1 = .ok (.istore_n 2, 1) := dk_61 (dk_at dksX7_widen_0 1 rfl rfl)
theorem dX7_widen_2 : decode cX7_widen 2 = .ok (.iload_n 2, 1) := dk_28 (dk_at dksX7_widen_0 2 rfl rfl)
theorem dX7_widen_3 : decode cX7_widen 3 = .ok (.aload_n 1, 1) := dk_43 (dk_at dksX7_widen_0 3 rfl rfl)
theorem dX7_widen_4 : decode cX7_widen 4 = .ok (.getfield 51, 3) := dk_180 0 51 (dk_at dksX7_widen_0 4 rfl rfl)
theorem dX7_widen_7 : decode cX7_widen 7 = .ok (.invokevirtual 40, 3) := dk_182 0 40 (dk_at dksX7_widen_0 7 rfl rfl)
theorem dX7_widen_10 : decode cX7_widen 10 = .ok (.if_icmp .ge 80, 3) := dk_162 0 80 (dk_at dksX7_widen_0 10 rfl rfl)
theorem dX7_widen_13 : decode cX7_widen 13 = .ok (.new 54, 3) := dk_187 0 54 (dk_at dksX7_widen_0 13 rfl rfl)
theorem dX7_widen_16 : decode cX7_widen 16 = .ok (.dup, 1) := dk_89 (dk_at dksX7_widen_0 16 rfl rfl)
theorem dX7_widen_17 : decode cX7_widen 17 = .ok (.aload_n 1, 1) := dk_43 (dk_at dksX7_widen_0 17 rfl rfl)
theorem dX7_widen_18 : decode cX7_widen 18 = .ok (.getfield 51, 3) := dk_180 0 51 (dk_at dksX7_widen_0 18 rfl rfl)
theorem dX7_widen_21 : decode cX7_widen 21 = .ok (.iload_n 2, 1) := dk_28 (dk_at dksX7_widen_0 21 rfl rfl)
theorem dX7_widen_22 : decode cX7_widen 22 = .ok (.invokevirtual 24, 3) := dk_182 0 24 (dk_at dksX7_widen_1 0 rfl rfl)
theorem dX7_widen_25 : decode cX7_widen 25 = .ok (.checkcast 56, 3) := dk_192 0 56 (dk_at dksX7_widen_1 3 rfl rfl)
theorem dX7_widen_28 : decode cX7_widen 28 = .ok (.invokespecial 58, 3) := dk_183 0 58 (dk_at dksX7_widen_1 6 rfl rfl)
theorem dX7_widen_31 : decode cX7_widen 31 = .ok (.astore_n 3, 1) := dk_78 (dk_at dksX7_widen_1 9 rfl rfl)
theorem dX7_widen_32 : decode cX7_widen 32 = .ok (.aload_n 0, 1) := dk_42 (dk_at dksX7_widen_1 10 rfl rfl)
theorem dX7_widen_33 : decode cX7_widen 33 = .ok (.getfield 12, 3) := dk_180 0 12 (dk_at dksX7_widen_1 11 rfl rfl)
theorem dX7_widen_36 : decode cX7_widen 36 = .ok (.invokevirtual 40, 3) := dk_182 0 40 (dk_at dksX7_widen_1 14 rfl rfl)
theorem dX7_widen_39 : decode cX7_widen 39 = .ok (.iload_n 2, 1) := dk_28 (dk_at dksX7_widen_1 17 rfl rfl)
theorem dX7_widen_40 : decode cX7_widen 40 = .ok (.if_icmp .ne 16, 3) := dk_160 0 16 (dk_at dksX7_widen_1 18 rfl rfl)
theorem dX7_widen_43 : decode cX7_widen 43 = .ok (.aload_n 0, 1) := dk_42 (dk_at dksX7_widen_1 21 rfl rfl)
theorem dX7_widen_44 : decode cX7_widen 44 = .ok (.getfield 12, 3) := dk_180 0 12 (dk_at dksX7_widen_2 0 rfl rfl)
theorem dX7_widen_47 : decode cX7_widen 47 = .ok (.aload_n 3, 1) := dk_45 (dk_at dksX7_widen_2 3 rfl rfl)
theorem dX7_widen_48 : decode cX7_widen 48 = .ok (.invokevirtual 43, 3) := dk_182 0 43 (dk_at dksX7_widen_2 4 rfl rfl)
theorem dX7_widen_51 : decode cX7_widen 51 = .ok (.istore 4, 2) := dk_54 4 (dk_at dksX7_widen_2 7 rfl rfl)
theorem dX7_widen_53 : decode cX7_widen 53 = .ok (.goto 31, 3) := dk_167 0 31 (dk_at dksX7_widen_2 9 rfl rfl)
theorem dX7_widen_56 : decode cX7_widen 56 = .ok (.aload_n 0, 1) := dk_42 (dk_at dksX7_widen_2 12 rfl rfl)
theorem dX7_widen_57 : decode cX7_widen 57 = .ok (.getfield 12, 3) := dk_180 0 12 (dk_at dksX7_widen_2 13 rfl rfl)
theorem dX7_widen_60 : decode cX7_widen 60 = .ok (.iload_n 2, 1) := dk_28 (dk_at dksX7_widen_2 16 rfl rfl)
theorem dX7_widen_61 : decode cX7_widen 61 = .ok (.aload_n 0, 1) := dk_42 (dk_at dksX7_widen_2 17 rfl rfl)
theorem dX7_widen_62 : decode cX7_widen 62 = .ok (.getfield 12, 3) := dk_180 0 12 (dk_at dksX7_widen_2 18 rfl rfl)
theorem dX7_widen_65 : decode cX7_widen 65 = .ok (.iload_n 2, 1) := dk_28 (dk_at dksX7_widen_2 21 rfl rfl)
theorem dX7_widen_66 : decode cX7_widen 66 = .ok (.invokevirtual 24, 3) := dk_182 0 24 (dk_at dksX7_widen_3 0 rfl rfl)
theorem dX7_widen_69 : decode cX7_widen 69 = .ok (.checkcast 54, 3) := dk_192 0 54 (dk_at dksX7_widen_3 3 rfl rfl)
theorem dX7_widen_72 : decode cX7_widen 72 = .ok (.aload_n 3, 1) := dk_45 (dk_at dksX7_widen_3 6 rfl rfl)
theorem dX7_widen_73 : decode cX7_widen 73 = .ok (.invokevirtual 61, 3) := dk_182 0 61 (dk_at dksX7_widen_3 7 rfl rfl)
theorem dX7_widen_76 : decode cX7_widen 76 = .ok (.invokevirtual 65, 3) := dk_182 0 65 (dk_at dksX7_widen_3 10 rfl rfl)
theorem dX7_widen_79 : decode cX7_widen 79 = .ok (.checkcast 54, 3) := dk_192 0 54 (dk_at dksX7_widen_3 13 rfl rfl)
theorem dX7_widen_82 : decode cX7_widen 82 = .ok (.astore 4, 2) := dk_58 4 (dk_at dksX7_widen_3 16 rfl rfl)
theorem dX7_widen_84 : decode cX7_widen 84 = .ok (.iinc 2 1, 3) := dk_132 2 1 (dk_at dksX7_widen_3 18 rfl rfl)
theorem dX7_widen_87 : decode cX7_widen 87 = .ok (.goto (-85), 3) := dk_167 255 171 (dk_at dksX7_widen_3 21 rfl rfl)
theorem dX7_widen_90 : decode cX7_widen 90 = .ok (.return_, 1) := dk_177 (dk_at dksX7_widen_4 0 rfl rfl)
abbrev cX7_variables : ByteArray := prog_11_method_12_code
def yX7_variables : MethodName := ⟨RX7, "variables", "()I"⟩
def dkwX7_variables_1 : List UInt8 := [192, 0, 54, 182, 0, 90, 153, 0, 7, 4, 167, 0, 4, 3, 96, 60, 132, 2, 1, 167, 255, 217, 27, 172]
abbrev dktX7_variables_1 : List UInt8 := dkwX7_variables_1 ++ []
def dkwX7_variables_0 : List UInt8 := [3, 60, 3, 61, 28, 42, 180, 0, 12, 182, 0, 40, 162, 0, 34, 27, 42, 180, 0, 12, 28, 182, 0, 24]
abbrev dktX7_variables_0 : List UInt8 := dkwX7_variables_0 ++ dktX7_variables_1
theorem dksX7_variables_0 : cX7_variables.data.toList.drop 0 = dktX7_variables_0 := by decide +kernel
theorem dksX7_variables_1 : cX7_variables.data.toList.drop 24 = dktX7_variables_1 := dk_seg dksX7_variables_0 24 rfl rfl
theorem dX7_variables_0 : decode cX7_variables 0 = .ok (.iconst 0, 1) := dk_3 (dk_at dksX7_variables_0 0 rfl rfl)
theorem dX7_variables_1 : decode cX7_variables 1 = .ok (.istore_n 1, 1) := dk_60 (dk_at dksX7_variables_0 1 rfl rfl)
theorem dX7_variables_2 : decode cX7_variables 2 = .ok (.iconst 0, 1) := dk_3 (dk_at dksX7_variables_0 2 rfl rfl)
theorem dX7_variables_3 : decode cX7_variables 3 = .ok (.istore_n 2, 1) := dk_61 (dk_at dksX7_variables_0 3 rfl rfl)
theorem dX7_variables_4 : decode cX7_variables 4 = .ok (.iload_n 2, 1) := dk_28 (dk_at dksX7_variables_0 4 rfl rfl)
theorem dX7_variables_5 : decode cX7_variables 5 = .ok (.aload_n 0, 1) := dk_42 (dk_at dksX7_variables_0 5 rfl rfl)
theorem dX7_variables_6 : decode cX7_variables 6 = .ok (.getfield 12, 3) := dk_180 0 12 (dk_at dksX7_variables_0 6 rfl rfl)
theorem dX7_variables_9 : decode cX7_variables 9 = .ok (.invokevirtual 40, 3) := dk_182 0 40 (dk_at dksX7_variables_0 9 rfl rfl)
theorem dX7_variables_12 : decode cX7_variables 12 = .ok (.if_icmp .ge 34, 3) := dk_162 0 34 (dk_at dksX7_variables_0 12 rfl rfl)
theorem dX7_variables_15 : decode cX7_variables 15 = .ok (.iload_n 1, 1) := dk_27 (dk_at dksX7_variables_0 15 rfl rfl)
theorem dX7_variables_16 : decode cX7_variables 16 = .ok (.aload_n 0, 1) := dk_42 (dk_at dksX7_variables_0 16 rfl rfl)
theorem dX7_variables_17 : decode cX7_variables 17 = .ok (.getfield 12, 3) := dk_180 0 12 (dk_at dksX7_variables_0 17 rfl rfl)
theorem dX7_variables_20 : decode cX7_variables 20 = .ok (.iload_n 2, 1) := dk_28 (dk_at dksX7_variables_0 20 rfl rfl)
theorem dX7_variables_21 : decode cX7_variables 21 = .ok (.invokevirtual 24, 3) := dk_182 0 24 (dk_at dksX7_variables_0 21 rfl rfl)
theorem dX7_variables_24 : decode cX7_variables 24 = .ok (.checkcast 54, 3) := dk_192 0 54 (dk_at dksX7_variables_1 0 rfl rfl)
theorem dX7_variables_27 : decode cX7_variables 27 = .ok (.invokevirtual 90, 3) := dk_182 0 90 (dk_at dksX7_variables_1 3 rfl rfl)
theorem dX7_variables_30 : decode cX7_variables 30 = .ok (.ifCond .eq 7, 3) := dk_153 0 7 (dk_at dksX7_variables_1 6 rfl rfl)
theorem dX7_variables_33 : decode cX7_variables 33 = .ok (.iconst 1, 1) := dk_4 (dk_at dksX7_variables_1 9 rfl rfl)
theorem dX7_variables_34 : decode cX7_variables 34 = .ok (.goto 4, 3) := dk_167 0 4 (dk_at dksX7_variables_1 10 rfl rfl)
theorem dX7_variables_37 : decode cX7_variables 37 = .ok (.iconst 0, 1) := dk_3 (dk_at dksX7_variables_1 13 rfl rfl)
theorem dX7_variables_38 : decode cX7_variables 38 = .ok (.iadd, 1) := dk_96 (dk_at dksX7_variables_1 14 rfl rfl)
theorem dX7_variables_39 : decode cX7_variables 39 = .ok (.istore_n 1, 1) := dk_60 (dk_at dksX7_variables_1 15 rfl rfl)
theorem dX7_variables_40 : decode cX7_variables 40 = .ok (.iinc 2 1, 3) := dk_132 2 1 (dk_at dksX7_variables_1 16 rfl rfl)
theorem dX7_variables_43 : decode cX7_variables 43 = .ok (.goto (-39), 3) := dk_167 255 217 (dk_at dksX7_variables_1 19 rfl rfl)
theorem dX7_variables_46 : decode cX7_variables 46 = .ok (.iload_n 1, 1) := dk_27 (dk_at dksX7_variables_1 22 rfl rfl)
theorem dX7_variables_47 : decode cX7_variables 47 = .ok (.ireturn, 1) := dk_172 (dk_at dksX7_variables_1 23 rfl rfl)
abbrev cX7_before : ByteArray := prog_11_method_9_code
def yX7_before : MethodName := ⟨RX7, "before", "(I)LLogCompactor$Template;"⟩
def dkwX7_before_5 : List UInt8 := [167, 255, 196, 44, 176]
abbrev dktX7_before_5 : List UInt8 := dkwX7_before_5 ++ []
def dkwX7_before_4 : List UInt8 := [182, 0, 24, 192, 0, 28, 182, 0, 43, 153, 0, 7, 4, 167, 0, 4, 3, 54, 4, 132, 3, 1]
abbrev dktX7_before_4 : List UInt8 := dkwX7_before_4 ++ dktX7_before_5
def dkwX7_before_3 : List UInt8 := [182, 0, 24, 192, 0, 28, 182, 0, 30, 27, 162, 0, 28, 44, 180, 0, 18, 42, 180, 0, 18, 29]
abbrev dktX7_before_3 : List UInt8 := dkwX7_before_3 ++ dktX7_before_4
def dkwX7_before_2 : List UInt8 := [132, 3, 1, 167, 255, 222, 3, 62, 29, 42, 180, 0, 18, 182, 0, 40, 162, 0, 55, 42, 180, 0, 18, 29]
abbrev dktX7_before_2 : List UInt8 := dkwX7_before_2 ++ dktX7_before_3
def dkwX7_before_1 : List UInt8 := [162, 0, 29, 44, 180, 0, 12, 42, 180, 0, 12, 29, 182, 0, 24, 192, 0, 54, 182, 0, 43, 54, 4]
abbrev dktX7_before_1 : List UInt8 := dkwX7_before_1 ++ dktX7_before_2
def dkwX7_before_0 : List UInt8 := [187, 0, 13, 89, 42, 180, 0, 21, 183, 0, 37, 77, 3, 62, 29, 42, 180, 0, 12, 182, 0, 40]
abbrev dktX7_before_0 : List UInt8 := dkwX7_before_0 ++ dktX7_before_1
theorem dksX7_before_0 : cX7_before.data.toList.drop 0 = dktX7_before_0 := by decide +kernel
theorem dksX7_before_1 : cX7_before.data.toList.drop 22 = dktX7_before_1 := dk_seg dksX7_before_0 22 rfl rfl
theorem dksX7_before_2 : cX7_before.data.toList.drop 45 = dktX7_before_2 := dk_seg dksX7_before_1 23 rfl rfl
theorem dksX7_before_3 : cX7_before.data.toList.drop 69 = dktX7_before_3 := dk_seg dksX7_before_2 24 rfl rfl
theorem dksX7_before_4 : cX7_before.data.toList.drop 91 = dktX7_before_4 := dk_seg dksX7_before_3 22 rfl rfl
theorem dksX7_before_5 : cX7_before.data.toList.drop 113 = dktX7_before_5 := dk_seg dksX7_before_4 22 rfl rfl
theorem dX7_before_0 : decode cX7_before 0 = .ok (.new 13, 3) := dk_187 0 13 (dk_at dksX7_before_0 0 rfl rfl)
theorem dX7_before_3 : decode cX7_before 3 = .ok (.dup, 1) := dk_89 (dk_at dksX7_before_0 3 rfl rfl)
theorem dX7_before_4 : decode cX7_before 4 = .ok (.aload_n 0, 1) := dk_42 (dk_at dksX7_before_0 4 rfl rfl)
theorem dX7_before_5 : decode cX7_before 5 = .ok (.getfield 21, 3) := dk_180 0 21 (dk_at dksX7_before_0 5 rfl rfl)
theorem dX7_before_8 : decode cX7_before 8 = .ok (.invokespecial 37, 3) := dk_183 0 37 (dk_at dksX7_before_0 8 rfl rfl)
theorem dX7_before_11 : decode cX7_before 11 = .ok (.astore_n 2, 1) := dk_77 (dk_at dksX7_before_0 11 rfl rfl)
theorem dX7_before_12 : decode cX7_before 12 = .ok (.iconst 0, 1) := dk_3 (dk_at dksX7_before_0 12 rfl rfl)
theorem dX7_before_13 : decode cX7_before 13 = .ok (.istore_n 3, 1) := dk_62 (dk_at dksX7_before_0 13 rfl rfl)
theorem dX7_before_14 : decode cX7_before 14 = .ok (.iload_n 3, 1) := dk_29 (dk_at dksX7_before_0 14 rfl rfl)
theorem dX7_before_15 : decode cX7_before 15 = .ok (.aload_n 0, 1) := dk_42 (dk_at dksX7_before_0 15 rfl rfl)
theorem dX7_before_16 : decode cX7_before 16 = .ok (.getfield 12, 3) := dk_180 0 12 (dk_at dksX7_before_0 16 rfl rfl)
theorem dX7_before_19 : decode cX7_before 19 = .ok (.invokevirtual 40, 3) := dk_182 0 40 (dk_at dksX7_before_0 19 rfl rfl)
theorem dX7_before_22 : decode cX7_before 22 = .ok (.if_icmp .ge 29, 3) := dk_162 0 29 (dk_at dksX7_before_1 0 rfl rfl)
theorem dX7_before_25 : decode cX7_before 25 = .ok (.aload_n 2, 1) := dk_44 (dk_at dksX7_before_1 3 rfl rfl)
theorem dX7_before_26 : decode cX7_before 26 = .ok (.getfield 12, 3) := dk_180 0 12 (dk_at dksX7_before_1 4 rfl rfl)
theorem dX7_before_29 : decode cX7_before 29 = .ok (.aload_n 0, 1) := dk_42 (dk_at dksX7_before_1 7 rfl rfl)
theorem dX7_before_30 : decode cX7_before 30 = .ok (.getfield 12, 3) := dk_180 0 12 (dk_at dksX7_before_1 8 rfl rfl)
theorem dX7_before_33 : decode cX7_before 33 = .ok (.iload_n 3, 1) := dk_29 (dk_at dksX7_before_1 11 rfl rfl)
theorem dX7_before_34 : decode cX7_before 34 = .ok (.invokevirtual 24, 3) := dk_182 0 24 (dk_at dksX7_before_1 12 rfl rfl)
theorem dX7_before_37 : decode cX7_before 37 = .ok (.checkcast 54, 3) := dk_192 0 54 (dk_at dksX7_before_1 15 rfl rfl)
theorem dX7_before_40 : decode cX7_before 40 = .ok (.invokevirtual 43, 3) := dk_182 0 43 (dk_at dksX7_before_1 18 rfl rfl)
theorem dX7_before_43 : decode cX7_before 43 = .ok (.istore 4, 2) := dk_54 4 (dk_at dksX7_before_1 21 rfl rfl)
theorem dX7_before_45 : decode cX7_before 45 = .ok (.iinc 3 1, 3) := dk_132 3 1 (dk_at dksX7_before_2 0 rfl rfl)
theorem dX7_before_48 : decode cX7_before 48 = .ok (.goto (-34), 3) := dk_167 255 222 (dk_at dksX7_before_2 3 rfl rfl)
theorem dX7_before_51 : decode cX7_before 51 = .ok (.iconst 0, 1) := dk_3 (dk_at dksX7_before_2 6 rfl rfl)
theorem dX7_before_52 : decode cX7_before 52 = .ok (.istore_n 3, 1) := dk_62 (dk_at dksX7_before_2 7 rfl rfl)
theorem dX7_before_53 : decode cX7_before 53 = .ok (.iload_n 3, 1) := dk_29 (dk_at dksX7_before_2 8 rfl rfl)
theorem dX7_before_54 : decode cX7_before 54 = .ok (.aload_n 0, 1) := dk_42 (dk_at dksX7_before_2 9 rfl rfl)
theorem dX7_before_55 : decode cX7_before 55 = .ok (.getfield 18, 3) := dk_180 0 18 (dk_at dksX7_before_2 10 rfl rfl)
theorem dX7_before_58 : decode cX7_before 58 = .ok (.invokevirtual 40, 3) := dk_182 0 40 (dk_at dksX7_before_2 13 rfl rfl)
theorem dX7_before_61 : decode cX7_before 61 = .ok (.if_icmp .ge 55, 3) := dk_162 0 55 (dk_at dksX7_before_2 16 rfl rfl)
theorem dX7_before_64 : decode cX7_before 64 = .ok (.aload_n 0, 1) := dk_42 (dk_at dksX7_before_2 19 rfl rfl)
theorem dX7_before_65 : decode cX7_before 65 = .ok (.getfield 18, 3) := dk_180 0 18 (dk_at dksX7_before_2 20 rfl rfl)
theorem dX7_before_68 : decode cX7_before 68 = .ok (.iload_n 3, 1) := dk_29 (dk_at dksX7_before_2 23 rfl rfl)
theorem dX7_before_69 : decode cX7_before 69 = .ok (.invokevirtual 24, 3) := dk_182 0 24 (dk_at dksX7_before_3 0 rfl rfl)
theorem dX7_before_72 : decode cX7_before 72 = .ok (.checkcast 28, 3) := dk_192 0 28 (dk_at dksX7_before_3 3 rfl rfl)
theorem dX7_before_75 : decode cX7_before 75 = .ok (.invokevirtual 30, 3) := dk_182 0 30 (dk_at dksX7_before_3 6 rfl rfl)
theorem dX7_before_78 : decode cX7_before 78 = .ok (.iload_n 1, 1) := dk_27 (dk_at dksX7_before_3 9 rfl rfl)
theorem dX7_before_79 : decode cX7_before 79 = .ok (.if_icmp .ge 28, 3) := dk_162 0 28 (dk_at dksX7_before_3 10 rfl rfl)
theorem dX7_before_82 : decode cX7_before 82 = .ok (.aload_n 2, 1) := dk_44 (dk_at dksX7_before_3 13 rfl rfl)
theorem dX7_before_83 : decode cX7_before 83 = .ok (.getfield 18, 3) := dk_180 0 18 (dk_at dksX7_before_3 14 rfl rfl)
theorem dX7_before_86 : decode cX7_before 86 = .ok (.aload_n 0, 1) := dk_42 (dk_at dksX7_before_3 17 rfl rfl)
theorem dX7_before_87 : decode cX7_before 87 = .ok (.getfield 18, 3) := dk_180 0 18 (dk_at dksX7_before_3 18 rfl rfl)
theorem dX7_before_90 : decode cX7_before 90 = .ok (.iload_n 3, 1) := dk_29 (dk_at dksX7_before_3 21 rfl rfl)
theorem dX7_before_91 : decode cX7_before 91 = .ok (.invokevirtual 24, 3) := dk_182 0 24 (dk_at dksX7_before_4 0 rfl rfl)
theorem dX7_before_94 : decode cX7_before 94 = .ok (.checkcast 28, 3) := dk_192 0 28 (dk_at dksX7_before_4 3 rfl rfl)
theorem dX7_before_97 : decode cX7_before 97 = .ok (.invokevirtual 43, 3) := dk_182 0 43 (dk_at dksX7_before_4 6 rfl rfl)
theorem dX7_before_100 : decode cX7_before 100 = .ok (.ifCond .eq 7, 3) := dk_153 0 7 (dk_at dksX7_before_4 9 rfl rfl)
theorem dX7_before_103 : decode cX7_before 103 = .ok (.iconst 1, 1) := dk_4 (dk_at dksX7_before_4 12 rfl rfl)
theorem dX7_before_104 : decode cX7_before 104 = .ok (.goto 4, 3) := dk_167 0 4 (dk_at dksX7_before_4 13 rfl rfl)
theorem dX7_before_107 : decode cX7_before 107 = .ok (.iconst 0, 1) := dk_3 (dk_at dksX7_before_4 16 rfl rfl)
theorem dX7_before_108 : decode cX7_before 108 = .ok (.istore 4, 2) := dk_54 4 (dk_at dksX7_before_4 17 rfl rfl)
theorem dX7_before_110 : decode cX7_before 110 = .ok (.iinc 3 1, 3) := dk_132 3 1 (dk_at dksX7_before_4 19 rfl rfl)
theorem dX7_before_113 : decode cX7_before 113 = .ok (.goto (-60), 3) := dk_167 255 196 (dk_at dksX7_before_5 0 rfl rfl)
theorem dX7_before_116 : decode cX7_before 116 = .ok (.aload_n 2, 1) := dk_44 (dk_at dksX7_before_5 3 rfl rfl)
theorem dX7_before_117 : decode cX7_before 117 = .ok (.areturn, 1) := dk_176 (dk_at dksX7_before_5 4 rfl rfl)
abbrev cX7_pattern : ByteArray := prog_11_method_15_code
def yX7_pattern : MethodName := ⟨RX7, "pattern", "()Ljava/lang/String;"⟩
def dkwX7_pattern_4 : List UInt8 := [132, 2, 1, 167, 255, 169, 43, 182, 0, 114, 176]
abbrev dktX7_pattern_4 : List UInt8 := dkwX7_pattern_4 ++ []
def dkwX7_pattern_3 : List UInt8 := [43, 42, 180, 0, 12, 28, 182, 0, 24, 192, 0, 54, 182, 0, 107, 182, 0, 111, 167, 0, 4, 43, 58, 4]
abbrev dktX7_pattern_3 : List UInt8 := dkwX7_pattern_3 ++ dktX7_pattern_4
def dkwX7_pattern_2 : List UInt8 := [16, 32, 182, 0, 103, 58, 5, 132, 4, 1, 167, 255, 239, 28, 42, 180, 0, 12, 182, 0, 40, 162, 0, 24]
abbrev dktX7_pattern_2 : List UInt8 := dkwX7_pattern_2 ++ dktX7_pattern_3
def dkwX7_pattern_1 : List UInt8 := [180, 0, 21, 28, 182, 0, 24, 192, 0, 28, 182, 0, 30, 62, 3, 54, 4, 21, 4, 29, 162, 0, 17, 43]
abbrev dktX7_pattern_1 : List UInt8 := dkwX7_pattern_1 ++ dktX7_pattern_2
def dkwX7_pattern_0 : List UInt8 := [187, 0, 100, 89, 183, 0, 102, 76, 3, 61, 28, 42, 180, 0, 21, 182, 0, 40, 162, 0, 82, 42]
abbrev dktX7_pattern_0 : List UInt8 := dkwX7_pattern_0 ++ dktX7_pattern_1
theorem dksX7_pattern_0 : cX7_pattern.data.toList.drop 0 = dktX7_pattern_0 := by decide +kernel
theorem dksX7_pattern_1 : cX7_pattern.data.toList.drop 22 = dktX7_pattern_1 := dk_seg dksX7_pattern_0 22 rfl rfl
theorem dksX7_pattern_2 : cX7_pattern.data.toList.drop 46 = dktX7_pattern_2 := dk_seg dksX7_pattern_1 24 rfl rfl
theorem dksX7_pattern_3 : cX7_pattern.data.toList.drop 70 = dktX7_pattern_3 := dk_seg dksX7_pattern_2 24 rfl rfl
theorem dksX7_pattern_4 : cX7_pattern.data.toList.drop 94 = dktX7_pattern_4 := dk_seg dksX7_pattern_3 24 rfl rfl
theorem dX7_pattern_0 : decode cX7_pattern 0 = .ok (.new 100, 3) := dk_187 0 100 (dk_at dksX7_pattern_0 0 rfl rfl)
theorem dX7_pattern_3 : decode cX7_pattern 3 = .ok (.dup, 1) := dk_89 (dk_at dksX7_pattern_0 3 rfl rfl)
theorem dX7_pattern_4 : decode cX7_pattern 4 = .ok (.invokespecial 102, 3) := dk_183 0 102 (dk_at dksX7_pattern_0 4 rfl rfl)
theorem dX7_pattern_7 : decode cX7_pattern 7 = .ok (.astore_n 1, 1) := dk_76 (dk_at dksX7_pattern_0 7 rfl rfl)
theorem dX7_pattern_8 : decode cX7_pattern 8 = .ok (.iconst 0, 1) := dk_3 (dk_at dksX7_pattern_0 8 rfl rfl)
theorem dX7_pattern_9 : decode cX7_pattern 9 = .ok (.istore_n 2, 1) := dk_61 (dk_at dksX7_pattern_0 9 rfl rfl)
theorem dX7_pattern_10 : decode cX7_pattern 10 = .ok (.iload_n 2, 1) := dk_28 (dk_at dksX7_pattern_0 10 rfl rfl)
theorem dX7_pattern_11 : decode cX7_pattern 11 = .ok (.aload_n 0, 1) := dk_42 (dk_at dksX7_pattern_0 11 rfl rfl)
theorem dX7_pattern_12 : decode cX7_pattern 12 = .ok (.getfield 21, 3) := dk_180 0 21 (dk_at dksX7_pattern_0 12 rfl rfl)
theorem dX7_pattern_15 : decode cX7_pattern 15 = .ok (.invokevirtual 40, 3) := dk_182 0 40 (dk_at dksX7_pattern_0 15 rfl rfl)
theorem dX7_pattern_18 : decode cX7_pattern 18 = .ok (.if_icmp .ge 82, 3) := dk_162 0 82 (dk_at dksX7_pattern_0 18 rfl rfl)
theorem dX7_pattern_21 : decode cX7_pattern 21 = .ok (.aload_n 0, 1) := dk_42 (dk_at dksX7_pattern_0 21 rfl rfl)
theorem dX7_pattern_22 : decode cX7_pattern 22 = .ok (.getfield 21, 3) := dk_180 0 21 (dk_at dksX7_pattern_1 0 rfl rfl)
theorem dX7_pattern_25 : decode cX7_pattern 25 = .ok (.iload_n 2, 1) := dk_28 (dk_at dksX7_pattern_1 3 rfl rfl)
theorem dX7_pattern_26 : decode cX7_pattern 26 = .ok (.invokevirtual 24, 3) := dk_182 0 24 (dk_at dksX7_pattern_1 4 rfl rfl)
theorem dX7_pattern_29 : decode cX7_pattern 29 = .ok (.checkcast 28, 3) := dk_192 0 28 (dk_at dksX7_pattern_1 7 rfl rfl)
theorem dX7_pattern_32 : decode cX7_pattern 32 = .ok (.invokevirtual 30, 3) := dk_182 0 30 (dk_at dksX7_pattern_1 10 rfl rfl)
theorem dX7_pattern_35 : decode cX7_pattern 35 = .ok (.istore_n 3, 1) := dk_62 (dk_at dksX7_pattern_1 13 rfl rfl)
theorem dX7_pattern_36 : decode cX7_pattern 36 = .ok (.iconst 0, 1) := dk_3 (dk_at dksX7_pattern_1 14 rfl rfl)
theorem dX7_pattern_37 : decode cX7_pattern 37 = .ok (.istore 4, 2) := dk_54 4 (dk_at dksX7_pattern_1 15 rfl rfl)
theorem dX7_pattern_39 : decode cX7_pattern 39 = .ok (.iload 4, 2) := dk_21 4 (dk_at dksX7_pattern_1 17 rfl rfl)
theorem dX7_pattern_41 : decode cX7_pattern 41 = .ok (.iload_n 3, 1) := dk_29 (dk_at dksX7_pattern_1 19 rfl rfl)
theorem dX7_pattern_42 : decode cX7_pattern 42 = .ok (.if_icmp .ge 17, 3) := dk_162 0 17 (dk_at dksX7_pattern_1 20 rfl rfl)
theorem dX7_pattern_45 : decode cX7_pattern 45 = .ok (.aload_n 1, 1) := dk_43 (dk_at dksX7_pattern_1 23 rfl rfl)
theorem dX7_pattern_46 : decode cX7_pattern 46 = .ok (.bipush 32, 2) := dk_16 32 (dk_at dksX7_pattern_2 0 rfl rfl)
theorem dX7_pattern_48 : decode cX7_pattern 48 = .ok (.invokevirtual 103, 3) := dk_182 0 103 (dk_at dksX7_pattern_2 2 rfl rfl)
theorem dX7_pattern_51 : decode cX7_pattern 51 = .ok (.astore 5, 2) := dk_58 5 (dk_at dksX7_pattern_2 5 rfl rfl)
theorem dX7_pattern_53 : decode cX7_pattern 53 = .ok (.iinc 4 1, 3) := dk_132 4 1 (dk_at dksX7_pattern_2 7 rfl rfl)
theorem dX7_pattern_56 : decode cX7_pattern 56 = .ok (.goto (-17), 3) := dk_167 255 239 (dk_at dksX7_pattern_2 10 rfl rfl)
theorem dX7_pattern_59 : decode cX7_pattern 59 = .ok (.iload_n 2, 1) := dk_28 (dk_at dksX7_pattern_2 13 rfl rfl)
theorem dX7_pattern_60 : decode cX7_pattern 60 = .ok (.aload_n 0, 1) := dk_42 (dk_at dksX7_pattern_2 14 rfl rfl)
theorem dX7_pattern_61 : decode cX7_pattern 61 = .ok (.getfield 12, 3) := dk_180 0 12 (dk_at dksX7_pattern_2 15 rfl rfl)
theorem dX7_pattern_64 : decode cX7_pattern 64 = .ok (.invokevirtual 40, 3) := dk_182 0 40 (dk_at dksX7_pattern_2 18 rfl rfl)
theorem dX7_pattern_67 : decode cX7_pattern 67 = .ok (.if_icmp .ge 24, 3) := dk_162 0 24 (dk_at dksX7_pattern_2 21 rfl rfl)
theorem dX7_pattern_70 : decode cX7_pattern 70 = .ok (.aload_n 1, 1) := dk_43 (dk_at dksX7_pattern_3 0 rfl rfl)
theorem dX7_pattern_71 : decode cX7_pattern 71 = .ok (.aload_n 0, 1) := dk_42 (dk_at dksX7_pattern_3 1 rfl rfl)
theorem dX7_pattern_72 : decode cX7_pattern 72 = .ok (.getfield 12, 3) := dk_180 0 12 (dk_at dksX7_pattern_3 2 rfl rfl)
theorem dX7_pattern_75 : decode cX7_pattern 75 = .ok (.iload_n 2, 1) := dk_28 (dk_at dksX7_pattern_3 5 rfl rfl)
theorem dX7_pattern_76 : decode cX7_pattern 76 = .ok (.invokevirtual 24, 3) := dk_182 0 24 (dk_at dksX7_pattern_3 6 rfl rfl)
theorem dX7_pattern_79 : decode cX7_pattern 79 = .ok (.checkcast 54, 3) := dk_192 0 54 (dk_at dksX7_pattern_3 9 rfl rfl)
theorem dX7_pattern_82 : decode cX7_pattern 82 = .ok (.invokevirtual 107, 3) := dk_182 0 107 (dk_at dksX7_pattern_3 12 rfl rfl)
theorem dX7_pattern_85 : decode cX7_pattern 85 = .ok (.invokevirtual 111, 3) := dk_182 0 111 (dk_at dksX7_pattern_3 15 rfl rfl)
theorem dX7_pattern_88 : decode cX7_pattern 88 = .ok (.goto 4, 3) := dk_167 0 4 (dk_at dksX7_pattern_3 18 rfl rfl)
theorem dX7_pattern_91 : decode cX7_pattern 91 = .ok (.aload_n 1, 1) := dk_43 (dk_at dksX7_pattern_3 21 rfl rfl)
theorem dX7_pattern_92 : decode cX7_pattern 92 = .ok (.astore 4, 2) := dk_58 4 (dk_at dksX7_pattern_3 22 rfl rfl)
theorem dX7_pattern_94 : decode cX7_pattern 94 = .ok (.iinc 2 1, 3) := dk_132 2 1 (dk_at dksX7_pattern_4 0 rfl rfl)
theorem dX7_pattern_97 : decode cX7_pattern 97 = .ok (.goto (-87), 3) := dk_167 255 169 (dk_at dksX7_pattern_4 3 rfl rfl)
theorem dX7_pattern_100 : decode cX7_pattern 100 = .ok (.aload_n 1, 1) := dk_43 (dk_at dksX7_pattern_4 6 rfl rfl)
theorem dX7_pattern_101 : decode cX7_pattern 101 = .ok (.invokevirtual 114, 3) := dk_182 0 114 (dk_at dksX7_pattern_4 7 rfl rfl)
theorem dX7_pattern_104 : decode cX7_pattern 104 = .ok (.areturn, 1) := dk_176 (dk_at dksX7_pattern_4 10 rfl rfl)
theorem q127 : (Jvm.Cond.initialized "LogCompactor$Template") ∈ lw_all := lw_g (lw_at lw_m1 31 rfl) rfl
theorem q419 : (Jvm.Cond.selects "LogCompactor$Template" ({ cls := "java/lang/Object", name := "getClass", desc := "()Ljava/lang/Class;" } : Jvm.MethodName) ({ cls := "java/lang/Object", name := "getClass", desc := "()Ljava/lang/Class;" } : Jvm.MethodName)) ∈ lw_all := lw_g (lw_at lw_m2 83 rfl) rfl
theorem q463 : (Jvm.Cond.instanceMethod ({ cls := "LogCompactor$Template", name := "isForm", desc := "(Ljava/util/ArrayList;)Z" } : Jvm.MethodName)) ∈ lw_all := lw_g (lw_at lw_m2 127 rfl) rfl
theorem q464 : (Jvm.Cond.selects "LogCompactor$Template" ({ cls := "LogCompactor$Template", name := "isForm", desc := "(Ljava/util/ArrayList;)Z" } : Jvm.MethodName) ({ cls := "LogCompactor$Template", name := "isForm", desc := "(Ljava/util/ArrayList;)Z" } : Jvm.MethodName)) ∈ lw_all := lw_g (lw_at lw_m2 128 rfl) rfl
theorem q465 : (Jvm.Cond.code ({ cls := "LogCompactor$Template", name := "isForm", desc := "(Ljava/util/ArrayList;)Z" } : Jvm.MethodName) prog_11_method_4_code (5 : Nat) (Option.some Jvm.ClassFile.FieldType.boolean)) ∈ lw_all := lw_g (lw_at lw_m2 129 rfl) rfl
theorem q466 : (Jvm.Cond.methodLink "LogCompactor$Template" (40 : Nat) ({ cls := "java/util/ArrayList", name := "size", desc := "()I" } : Jvm.MethodName)) ∈ lw_all := lw_g (lw_at lw_m2 130 rfl) rfl
theorem q470 : (Jvm.Cond.methodLink "LogCompactor$Template" (24 : Nat) ({ cls := "java/util/ArrayList", name := "get", desc := "(I)Ljava/lang/Object;" } : Jvm.MethodName)) ∈ lw_all := lw_g (lw_at lw_m2 134 rfl) rfl
theorem q484 : (Jvm.Cond.classLink "LogCompactor$Template" (28 : Nat) "java/lang/Integer") ∈ lw_all := lw_g (lw_at lw_m2 148 rfl) rfl
theorem q485 : (Jvm.Cond.methodLink "LogCompactor$Template" (30 : Nat) ({ cls := "java/lang/Integer", name := "intValue", desc := "()I" } : Jvm.MethodName)) ∈ lw_all := lw_g (lw_at lw_m2 149 rfl) rfl
theorem q525 : (Jvm.Cond.instanceMethod ({ cls := "LogCompactor$Template", name := "cost", desc := "()I" } : Jvm.MethodName)) ∈ lw_all := lw_g (lw_at lw_m2 189 rfl) rfl
theorem q526 : (Jvm.Cond.selects "LogCompactor$Template" ({ cls := "LogCompactor$Template", name := "cost", desc := "()I" } : Jvm.MethodName) ({ cls := "LogCompactor$Template", name := "cost", desc := "()I" } : Jvm.MethodName)) ∈ lw_all := lw_g (lw_at lw_m2 190 rfl) rfl
theorem q527 : (Jvm.Cond.code ({ cls := "LogCompactor$Template", name := "cost", desc := "()I" } : Jvm.MethodName) prog_11_method_14_code (3 : Nat) (Option.some Jvm.ClassFile.FieldType.int)) ∈ lw_all := lw_g (lw_at lw_m2 191 rfl) rfl
theorem q528 : (Jvm.Cond.methodLink "LogCompactor$Template" (94 : Nat) ({ cls := "LogCompactor$Template", name := "gapSum", desc := "()I" } : Jvm.MethodName)) ∈ lw_all := lw_g (lw_at lw_m2 192 rfl) rfl
theorem q529 : (Jvm.Cond.instanceMethod ({ cls := "LogCompactor$Template", name := "gapSum", desc := "()I" } : Jvm.MethodName)) ∈ lw_all := lw_g (lw_at lw_m2 193 rfl) rfl
theorem q530 : (Jvm.Cond.selects "LogCompactor$Template" ({ cls := "LogCompactor$Template", name := "gapSum", desc := "()I" } : Jvm.MethodName) ({ cls := "LogCompactor$Template", name := "gapSum", desc := "()I" } : Jvm.MethodName)) ∈ lw_all := lw_g (lw_at lw_m2 194 rfl) rfl
theorem q531 : (Jvm.Cond.code ({ cls := "LogCompactor$Template", name := "gapSum", desc := "()I" } : Jvm.MethodName) prog_11_method_13_code (3 : Nat) (Option.some Jvm.ClassFile.FieldType.int)) ∈ lw_all := lw_g (lw_at lw_m2 195 rfl) rfl
theorem q532 : (Jvm.Cond.classLink "LogCompactor$Template" (54 : Nat) "LogCompactor$Slot") ∈ lw_all := lw_g (lw_at lw_m2 196 rfl) rfl
theorem q533 : (Jvm.Cond.methodLink "LogCompactor$Template" (97 : Nat) ({ cls := "LogCompactor$Slot", name := "cost", desc := "()I" } : Jvm.MethodName)) ∈ lw_all := lw_g (lw_at lw_m2 197 rfl) rfl
theorem q675 : (Jvm.Cond.instanceMethod ({ cls := "LogCompactor$Template", name := "merged", desc := "(LLogCompactor$Template;)LLogCompactor$Template;" } : Jvm.MethodName)) ∈ lw_all := lw_g (lw_at lw_m3 99 rfl) rfl
theorem q676 : (Jvm.Cond.selects "LogCompactor$Template" ({ cls := "LogCompactor$Template", name := "merged", desc := "(LLogCompactor$Template;)LLogCompactor$Template;" } : Jvm.MethodName) ({ cls := "LogCompactor$Template", name := "merged", desc := "(LLogCompactor$Template;)LLogCompactor$Template;" } : Jvm.MethodName)) ∈ lw_all := lw_g (lw_at lw_m3 100 rfl) rfl
theorem q677 : (Jvm.Cond.code ({ cls := "LogCompactor$Template", name := "merged", desc := "(LLogCompactor$Template;)LLogCompactor$Template;" } : Jvm.MethodName) prog_11_method_10_code (5 : Nat) (Option.some (Jvm.ClassFile.FieldType.object "LogCompactor$Template"))) ∈ lw_all := lw_g (lw_at lw_m3 101 rfl) rfl
theorem q678 : (Jvm.Cond.classLink "LogCompactor$Template" (13 : Nat) "LogCompactor$Template") ∈ lw_all := lw_g (lw_at lw_m3 102 rfl) rfl
theorem q679 : (Jvm.Cond.instantiable "LogCompactor$Template" (3 : Nat)) ∈ lw_all := lw_g (lw_at lw_m3 103 rfl) rfl
theorem q680 : (Jvm.Cond.methodLink "LogCompactor$Template" (37 : Nat) ({ cls := "LogCompactor$Template", name := "<init>", desc := "(Ljava/util/ArrayList;)V" } : Jvm.MethodName)) ∈ lw_all := lw_g (lw_at lw_m3 104 rfl) rfl
theorem q681 : (Jvm.Cond.instanceMethod ({ cls := "LogCompactor$Template", name := "<init>", desc := "(Ljava/util/ArrayList;)V" } : Jvm.MethodName)) ∈ lw_all := lw_g (lw_at lw_m3 105 rfl) rfl
theorem q682 : (Jvm.Cond.code ({ cls := "LogCompactor$Template", name := "<init>", desc := "(Ljava/util/ArrayList;)V" } : Jvm.MethodName) prog_11_method_1_code (2 : Nat) (Option.none : Option Jvm.ClassFile.FieldType)) ∈ lw_all := lw_g (lw_at lw_m3 106 rfl) rfl
theorem q683 : (Jvm.Cond.methodLink "LogCompactor$Template" (3 : Nat) ({ cls := "java/lang/Object", name := "<init>", desc := "()V" } : Jvm.MethodName)) ∈ lw_all := lw_g (lw_at lw_m3 107 rfl) rfl
theorem q684 : (Jvm.Cond.classLink "LogCompactor$Template" (9 : Nat) "java/util/ArrayList") ∈ lw_all := lw_g (lw_at lw_m3 108 rfl) rfl
theorem q685 : (Jvm.Cond.methodLink "LogCompactor$Template" (11 : Nat) ({ cls := "java/util/ArrayList", name := "<init>", desc := "()V" } : Jvm.MethodName)) ∈ lw_all := lw_g (lw_at lw_m3 109 rfl) rfl
theorem q686 : (Jvm.Cond.fieldLink "LogCompactor$Template" (21 : Nat) "LogCompactor$Template" "gaps" "Ljava/util/ArrayList;") ∈ lw_all := lw_g (lw_at lw_m3 110 rfl) rfl
theorem q689 : (Jvm.Cond.fieldLink "LogCompactor$Template" (12 : Nat) "LogCompactor$Template" "slots" "Ljava/util/ArrayList;") ∈ lw_all := lw_g (lw_at lw_m3 113 rfl) rfl
theorem q692 : (Jvm.Cond.fieldLink "LogCompactor$Template" (18 : Nat) "LogCompactor$Template" "rows" "Ljava/util/ArrayList;") ∈ lw_all := lw_g (lw_at lw_m3 116 rfl) rfl
theorem q696 : (Jvm.Cond.laysFinal "LogCompactor$Template" "LogCompactor$Template" "gaps" "Ljava/util/ArrayList;") ∈ lw_all := lw_g (lw_at lw_m3 120 rfl) rfl
theorem q697 : (Jvm.Cond.soleField "LogCompactor$Template" "gaps") ∈ lw_all := lw_g (lw_at lw_m3 121 rfl) rfl
theorem q698 : (Jvm.Cond.laysFinal "LogCompactor$Template" "LogCompactor$Template" "slots" "Ljava/util/ArrayList;") ∈ lw_all := lw_g (lw_at lw_m3 122 rfl) rfl
theorem q699 : (Jvm.Cond.soleField "LogCompactor$Template" "slots") ∈ lw_all := lw_g (lw_at lw_m3 123 rfl) rfl
theorem q700 : (Jvm.Cond.laysFinal "LogCompactor$Template" "LogCompactor$Template" "rows" "Ljava/util/ArrayList;") ∈ lw_all := lw_g (lw_at lw_m3 124 rfl) rfl
theorem q701 : (Jvm.Cond.soleField "LogCompactor$Template" "rows") ∈ lw_all := lw_g (lw_at lw_m3 125 rfl) rfl
theorem q702 : (Jvm.Cond.superclass "LogCompactor$Template" "java/lang/Object") ∈ lw_all := lw_g (lw_at lw_m3 126 rfl) rfl
theorem q703 : (Jvm.Cond.methodLink "LogCompactor$Template" (61 : Nat) ({ cls := "LogCompactor$Slot", name := "union", desc := "(LLogCompactor$Slot;)LLogCompactor$Slot;" } : Jvm.MethodName)) ∈ lw_all := lw_g (lw_at lw_m3 127 rfl) rfl
theorem q723 : (Jvm.Cond.methodLink "LogCompactor$Template" (43 : Nat) ({ cls := "java/util/ArrayList", name := "add", desc := "(Ljava/lang/Object;)Z" } : Jvm.MethodName)) ∈ lw_all := lw_g (lw_at lw_m3 147 rfl) rfl
theorem q724 : (Jvm.Cond.methodLink "LogCompactor$Template" (80 : Nat) ({ cls := "LogCompactor$Template", name := "addRows", desc := "(Ljava/util/ArrayList;)V" } : Jvm.MethodName)) ∈ lw_all := lw_g (lw_at lw_m3 148 rfl) rfl
theorem q725 : (Jvm.Cond.privateMethod ({ cls := "LogCompactor$Template", name := "addRows", desc := "(Ljava/util/ArrayList;)V" } : Jvm.MethodName)) ∈ lw_tbl := lw_at lw_m3 149 rfl
theorem q726 : (Jvm.Cond.instanceMethod ({ cls := "LogCompactor$Template", name := "addRows", desc := "(Ljava/util/ArrayList;)V" } : Jvm.MethodName)) ∈ lw_all := lw_g (lw_at lw_m3 150 rfl) rfl
theorem q727 : (Jvm.Cond.code ({ cls := "LogCompactor$Template", name := "addRows", desc := "(Ljava/util/ArrayList;)V" } : Jvm.MethodName) prog_11_method_8_code (4 : Nat) (Option.none : Option Jvm.ClassFile.FieldType)) ∈ lw_all := lw_g (lw_at lw_m3 151 rfl) rfl
theorem q728 : (Jvm.Cond.methodLink "LogCompactor$Template" (87 : Nat) ({ cls := "java/util/ArrayList", name := "add", desc := "(ILjava/lang/Object;)V" } : Jvm.MethodName)) ∈ lw_all := lw_g (lw_at lw_m3 152 rfl) rfl
theorem q1221 : (Jvm.Cond.selects "LogCompactor$Template" ({ cls := "java/lang/Object", name := "equals", desc := "(Ljava/lang/Object;)Z" } : Jvm.MethodName) ({ cls := "java/lang/Object", name := "equals", desc := "(Ljava/lang/Object;)Z" } : Jvm.MethodName)) ∈ lw_all := lw_g (lw_at lw_m5 165 rfl) rfl
theorem q1241 : (Jvm.Cond.instanceMethod ({ cls := "LogCompactor$Template", name := "tokenOf", desc := "(I)I" } : Jvm.MethodName)) ∈ lw_all := lw_g (lw_at lw_m5 185 rfl) rfl
theorem q1242 : (Jvm.Cond.selects "LogCompactor$Template" ({ cls := "LogCompactor$Template", name := "tokenOf", desc := "(I)I" } : Jvm.MethodName) ({ cls := "LogCompactor$Template", name := "tokenOf", desc := "(I)I" } : Jvm.MethodName)) ∈ lw_all := lw_g (lw_at lw_m5 186 rfl) rfl
theorem q1243 : (Jvm.Cond.code ({ cls := "LogCompactor$Template", name := "tokenOf", desc := "(I)I" } : Jvm.MethodName) prog_11_method_11_code (4 : Nat) (Option.some Jvm.ClassFile.FieldType.int)) ∈ lw_all := lw_g (lw_at lw_m5 187 rfl) rfl
theorem q1244 : (Jvm.Cond.methodLink "LogCompactor$Template" (90 : Nat) ({ cls := "LogCompactor$Slot", name := "isVariable", desc := "()Z" } : Jvm.MethodName)) ∈ lw_all := lw_g (lw_at lw_m5 188 rfl) rfl
theorem q1399 : (Jvm.Cond.fieldLinkNest "LogCompactor$Template" (51 : Nat) "LogCompactor$Line" "tokens" "Ljava/util/ArrayList;" "LogCompactor") ∈ lw_tbl := lw_at lw_m6 103 rfl
theorem q1404 : (Jvm.Cond.fieldLinkNest "LogCompactor$Template" (36 : Nat) "LogCompactor$Line" "gaps" "Ljava/util/ArrayList;" "LogCompactor") ∈ lw_tbl := lw_at lw_m6 108 rfl
theorem q1426 : (Jvm.Cond.instanceMethod ({ cls := "LogCompactor$Template", name := "matches", desc := "(LLogCompactor$Line;)Z" } : Jvm.MethodName)) ∈ lw_all := lw_g (lw_at lw_m6 130 rfl) rfl
theorem q1427 : (Jvm.Cond.selects "LogCompactor$Template" ({ cls := "LogCompactor$Template", name := "matches", desc := "(LLogCompactor$Line;)Z" } : Jvm.MethodName) ({ cls := "LogCompactor$Template", name := "matches", desc := "(LLogCompactor$Line;)Z" } : Jvm.MethodName)) ∈ lw_all := lw_g (lw_at lw_m6 131 rfl) rfl
theorem q1428 : (Jvm.Cond.code ({ cls := "LogCompactor$Template", name := "matches", desc := "(LLogCompactor$Line;)Z" } : Jvm.MethodName) prog_11_method_5_code (4 : Nat) (Option.some Jvm.ClassFile.FieldType.boolean)) ∈ lw_all := lw_g (lw_at lw_m6 132 rfl) rfl
theorem q1429 : (Jvm.Cond.methodLink "LogCompactor$Template" (69 : Nat) ({ cls := "LogCompactor$Template", name := "isForm", desc := "(Ljava/util/ArrayList;)Z" } : Jvm.MethodName)) ∈ lw_all := lw_g (lw_at lw_m6 133 rfl) rfl
theorem q1430 : (Jvm.Cond.classLink "LogCompactor$Template" (56 : Nat) "LogCompactor$Token") ∈ lw_all := lw_g (lw_at lw_m6 134 rfl) rfl
theorem q1431 : (Jvm.Cond.methodLink "LogCompactor$Template" (73 : Nat) ({ cls := "LogCompactor$Slot", name := "matches", desc := "(LLogCompactor$Token;)Z" } : Jvm.MethodName)) ∈ lw_all := lw_g (lw_at lw_m6 135 rfl) rfl
theorem q1436 : (Jvm.Cond.instanceMethod ({ cls := "LogCompactor$Template", name := "fit", desc := "(LLogCompactor$Line;)I" } : Jvm.MethodName)) ∈ lw_all := lw_g (lw_at lw_m6 140 rfl) rfl
theorem q1437 : (Jvm.Cond.selects "LogCompactor$Template" ({ cls := "LogCompactor$Template", name := "fit", desc := "(LLogCompactor$Line;)I" } : Jvm.MethodName) ({ cls := "LogCompactor$Template", name := "fit", desc := "(LLogCompactor$Line;)I" } : Jvm.MethodName)) ∈ lw_all := lw_g (lw_at lw_m6 141 rfl) rfl
theorem q1438 : (Jvm.Cond.code ({ cls := "LogCompactor$Template", name := "fit", desc := "(LLogCompactor$Line;)I" } : Jvm.MethodName) prog_11_method_6_code (4 : Nat) (Option.some Jvm.ClassFile.FieldType.int)) ∈ lw_all := lw_g (lw_at lw_m6 142 rfl) rfl
theorem q1439 : (Jvm.Cond.methodLink "LogCompactor$Template" (77 : Nat) ({ cls := "LogCompactor$Slot", name := "isFixed", desc := "(LLogCompactor$Token;)Z" } : Jvm.MethodName)) ∈ lw_all := lw_g (lw_at lw_m6 143 rfl) rfl
theorem q1441 : (Jvm.Cond.instanceMethod ({ cls := "LogCompactor$Template", name := "with", desc := "(LLogCompactor$Line;I)LLogCompactor$Template;" } : Jvm.MethodName)) ∈ lw_all := lw_g (lw_at lw_m6 145 rfl) rfl
theorem q1442 : (Jvm.Cond.selects "LogCompactor$Template" ({ cls := "LogCompactor$Template", name := "with", desc := "(LLogCompactor$Line;I)LLogCompactor$Template;" } : Jvm.MethodName) ({ cls := "LogCompactor$Template", name := "with", desc := "(LLogCompactor$Line;I)LLogCompactor$Template;" } : Jvm.MethodName)) ∈ lw_all := lw_g (lw_at lw_m6 146 rfl) rfl
theorem q1443 : (Jvm.Cond.code ({ cls := "LogCompactor$Template", name := "with", desc := "(LLogCompactor$Line;I)LLogCompactor$Template;" } : Jvm.MethodName) prog_11_method_7_code (6 : Nat) (Option.some (Jvm.ClassFile.FieldType.object "LogCompactor$Template"))) ∈ lw_all := lw_g (lw_at lw_m6 147 rfl) rfl
theorem q1444 : (Jvm.Cond.methodLink "LogCompactor$Template" (58 : Nat) ({ cls := "LogCompactor$Slot", name := "<init>", desc := "(LLogCompactor$Token;)V" } : Jvm.MethodName)) ∈ lw_all := lw_g (lw_at lw_m6 148 rfl) rfl
theorem q1447 : (Jvm.Cond.methodLink "LogCompactor$Template" (83 : Nat) ({ cls := "java/lang/Integer", name := "valueOf", desc := "(I)Ljava/lang/Integer;" } : Jvm.MethodName)) ∈ lw_all := lw_g (lw_at lw_m6 151 rfl) rfl
theorem q1453 : (Jvm.Cond.static ({ cls := "LogCompactor$Template", name := "of", desc := "(Ljava/util/ArrayList;Ljava/util/ArrayList;)LLogCompactor$Template;" } : Jvm.MethodName)) ∈ lw_all := lw_g (lw_at lw_m6 157 rfl) rfl
theorem q1454 : (Jvm.Cond.code ({ cls := "LogCompactor$Template", name := "of", desc := "(Ljava/util/ArrayList;Ljava/util/ArrayList;)LLogCompactor$Template;" } : Jvm.MethodName) prog_11_method_2_code (5 : Nat) (Option.some (Jvm.ClassFile.FieldType.object "LogCompactor$Template"))) ∈ lw_all := lw_g (lw_at lw_m6 158 rfl) rfl
theorem q1455 : (Jvm.Cond.classLink "LogCompactor$Template" (34 : Nat) "LogCompactor$Line") ∈ lw_all := lw_g (lw_at lw_m6 159 rfl) rfl
theorem q1456 : (Jvm.Cond.methodLink "LogCompactor$Template" (47 : Nat) ({ cls := "LogCompactor$Template", name := "widen", desc := "(LLogCompactor$Line;)V" } : Jvm.MethodName)) ∈ lw_all := lw_g (lw_at lw_m6 160 rfl) rfl
theorem q1457 : (Jvm.Cond.privateMethod ({ cls := "LogCompactor$Template", name := "widen", desc := "(LLogCompactor$Line;)V" } : Jvm.MethodName)) ∈ lw_tbl := lw_at lw_m6 161 rfl
theorem q1458 : (Jvm.Cond.instanceMethod ({ cls := "LogCompactor$Template", name := "widen", desc := "(LLogCompactor$Line;)V" } : Jvm.MethodName)) ∈ lw_all := lw_g (lw_at lw_m6 162 rfl) rfl
theorem q1459 : (Jvm.Cond.code ({ cls := "LogCompactor$Template", name := "widen", desc := "(LLogCompactor$Line;)V" } : Jvm.MethodName) prog_11_method_3_code (5 : Nat) (Option.none : Option Jvm.ClassFile.FieldType)) ∈ lw_all := lw_g (lw_at lw_m6 163 rfl) rfl
theorem q1460 : (Jvm.Cond.methodLink "LogCompactor$Template" (65 : Nat) ({ cls := "java/util/ArrayList", name := "set", desc := "(ILjava/lang/Object;)Ljava/lang/Object;" } : Jvm.MethodName)) ∈ lw_all := lw_g (lw_at lw_m6 164 rfl) rfl
theorem q1495 : (Jvm.Cond.instanceMethod ({ cls := "LogCompactor$Template", name := "variables", desc := "()I" } : Jvm.MethodName)) ∈ lw_all := lw_g (lw_at lw_m6 199 rfl) rfl
theorem q1496 : (Jvm.Cond.selects "LogCompactor$Template" ({ cls := "LogCompactor$Template", name := "variables", desc := "()I" } : Jvm.MethodName) ({ cls := "LogCompactor$Template", name := "variables", desc := "()I" } : Jvm.MethodName)) ∈ lw_all := lw_g (lw_at lw_m6 200 rfl) rfl
theorem q1497 : (Jvm.Cond.code ({ cls := "LogCompactor$Template", name := "variables", desc := "()I" } : Jvm.MethodName) prog_11_method_12_code (3 : Nat) (Option.some Jvm.ClassFile.FieldType.int)) ∈ lw_all := lw_g (lw_at lw_m6 201 rfl) rfl
theorem q1604 : (Jvm.Cond.instanceMethod ({ cls := "LogCompactor$Template", name := "before", desc := "(I)LLogCompactor$Template;" } : Jvm.MethodName)) ∈ lw_all := lw_g (lw_at lw_m7 68 rfl) rfl
theorem q1605 : (Jvm.Cond.selects "LogCompactor$Template" ({ cls := "LogCompactor$Template", name := "before", desc := "(I)LLogCompactor$Template;" } : Jvm.MethodName) ({ cls := "LogCompactor$Template", name := "before", desc := "(I)LLogCompactor$Template;" } : Jvm.MethodName)) ∈ lw_all := lw_g (lw_at lw_m7 69 rfl) rfl
theorem q1606 : (Jvm.Cond.code ({ cls := "LogCompactor$Template", name := "before", desc := "(I)LLogCompactor$Template;" } : Jvm.MethodName) prog_11_method_9_code (5 : Nat) (Option.some (Jvm.ClassFile.FieldType.object "LogCompactor$Template"))) ∈ lw_all := lw_g (lw_at lw_m7 70 rfl) rfl
theorem q1646 : (Jvm.Cond.instanceMethod ({ cls := "LogCompactor$Template", name := "pattern", desc := "()Ljava/lang/String;" } : Jvm.MethodName)) ∈ lw_all := lw_g (lw_at lw_m7 110 rfl) rfl
theorem q1647 : (Jvm.Cond.selects "LogCompactor$Template" ({ cls := "LogCompactor$Template", name := "pattern", desc := "()Ljava/lang/String;" } : Jvm.MethodName) ({ cls := "LogCompactor$Template", name := "pattern", desc := "()Ljava/lang/String;" } : Jvm.MethodName)) ∈ lw_all := lw_g (lw_at lw_m7 111 rfl) rfl
theorem q1648 : (Jvm.Cond.code ({ cls := "LogCompactor$Template", name := "pattern", desc := "()Ljava/lang/String;" } : Jvm.MethodName) prog_11_method_15_code (6 : Nat) (Option.some (Jvm.ClassFile.FieldType.object "java/lang/String"))) ∈ lw_all := lw_g (lw_at lw_m7 112 rfl) rfl
theorem q1649 : (Jvm.Cond.classLink "LogCompactor$Template" (100 : Nat) "java/lang/StringBuilder") ∈ lw_all := lw_g (lw_at lw_m7 113 rfl) rfl
theorem q1650 : (Jvm.Cond.methodLink "LogCompactor$Template" (102 : Nat) ({ cls := "java/lang/StringBuilder", name := "<init>", desc := "()V" } : Jvm.MethodName)) ∈ lw_all := lw_g (lw_at lw_m7 114 rfl) rfl
theorem q1651 : (Jvm.Cond.methodLink "LogCompactor$Template" (103 : Nat) ({ cls := "java/lang/StringBuilder", name := "append", desc := "(C)Ljava/lang/StringBuilder;" } : Jvm.MethodName)) ∈ lw_all := lw_g (lw_at lw_m7 115 rfl) rfl
theorem q1652 : (Jvm.Cond.methodLink "LogCompactor$Template" (107 : Nat) ({ cls := "LogCompactor$Slot", name := "sign", desc := "()Ljava/lang/String;" } : Jvm.MethodName)) ∈ lw_all := lw_g (lw_at lw_m7 116 rfl) rfl
theorem q1659 : (Jvm.Cond.methodLink "LogCompactor$Template" (111 : Nat) ({ cls := "java/lang/StringBuilder", name := "append", desc := "(Ljava/lang/String;)Ljava/lang/StringBuilder;" } : Jvm.MethodName)) ∈ lw_all := lw_g (lw_at lw_m7 123 rfl) rfl
theorem q1660 : (Jvm.Cond.methodLink "LogCompactor$Template" (114 : Nat) ({ cls := "java/lang/StringBuilder", name := "toString", desc := "()Ljava/lang/String;" } : Jvm.MethodName)) ∈ lw_all := lw_g (lw_at lw_m7 124 rfl) rfl
theorem q2324 : (Jvm.Cond.castable "LogCompactor$Template" "java/lang/Object") ∈ lw_tbl := lw_at lw_m10 68 rfl
theorem in_X7 : ∀ w ∈ wsX70, w ∈ lw_all := lw_in wsX70 [696, 698, 700] (by decide +kernel) (by decide +kernel)
/-! LogCompactor$Slot -/
set_option maxRecDepth 100000
def RX8 : String := "LogCompactor$Slot"
def TX8 : u_T := fun k => match k with
  | 0 => ("LogCompactor$Slot", "fixed", "LLogCompactor$Token;", true)
  | _ => ("LogCompactor$Slot", "type", "I", true)
def tyX8 : Nat → FieldType := fun k => match k with
  | 0 => .object "LogCompactor$Token"
  | _ => .int
abbrev wsX80 : List Cond := u_ws RX8 TX8 2
theorem nmX8 : ∀ a, a < 2 → ∀ b, b < 2 → a ≠ b → (TX8 a).2.1 ≠ (TX8 b).2.1 := by decide +kernel
theorem tyX8_ok : ∀ k, k < 2 → parseFieldDescriptor (TX8 k).2.2.1 = some (tyX8 k) := by decide +kernel
abbrev cX8_cost : ByteArray := prog_10_method_7_code
def yX8_cost : MethodName := ⟨RX8, "cost", "()I"⟩
def dkwX8_cost_0 : List UInt8 := [42, 180, 0, 9, 199, 0, 7, 5, 167, 0, 15, 42, 180, 0, 9, 180, 0, 29, 182, 0, 33, 4, 96, 172]
abbrev dktX8_cost_0 : List UInt8 := dkwX8_cost_0 ++ []
theorem dksX8_cost_0 : cX8_cost.data.toList.drop 0 = dktX8_cost_0 := by decide +kernel
theorem dX8_cost_0 : decode cX8_cost 0 = .ok (.aload_n 0, 1) := dk_42 (dk_at dksX8_cost_0 0 rfl rfl)
theorem dX8_cost_1 : decode cX8_cost 1 = .ok (.getfield 9, 3) := dk_180 0 9 (dk_at dksX8_cost_0 1 rfl rfl)
theorem dX8_cost_4 : decode cX8_cost 4 = .ok (.ifnonnull 7, 3) := dk_199 0 7 (dk_at dksX8_cost_0 4 rfl rfl)
theorem dX8_cost_7 : decode cX8_cost 7 = .ok (.iconst 2, 1) := dk_5 (dk_at dksX8_cost_0 7 rfl rfl)
theorem dX8_cost_8 : decode cX8_cost 8 = .ok (.goto 15, 3) := dk_167 0 15 (dk_at dksX8_cost_0 8 rfl rfl)
theorem dX8_cost_11 : decode cX8_cost 11 = .ok (.aload_n 0, 1) := dk_42 (dk_at dksX8_cost_0 11 rfl rfl)
theorem dX8_cost_12 : decode cX8_cost 12 = .ok (.getfield 9, 3) := dk_180 0 9 (dk_at dksX8_cost_0 12 rfl rfl)
theorem dX8_cost_15 : decode cX8_cost 15 = .ok (.getfield 29, 3) := dk_180 0 29 (dk_at dksX8_cost_0 15 rfl rfl)
theorem dX8_cost_18 : decode cX8_cost 18 = .ok (.invokevirtual 33, 3) := dk_182 0 33 (dk_at dksX8_cost_0 18 rfl rfl)
theorem dX8_cost_21 : decode cX8_cost 21 = .ok (.iconst 1, 1) := dk_4 (dk_at dksX8_cost_0 21 rfl rfl)
theorem dX8_cost_22 : decode cX8_cost 22 = .ok (.iadd, 1) := dk_96 (dk_at dksX8_cost_0 22 rfl rfl)
theorem dX8_cost_23 : decode cX8_cost 23 = .ok (.ireturn, 1) := dk_172 (dk_at dksX8_cost_0 23 rfl rfl)
abbrev cX8_isVariable : ByteArray := prog_10_method_3_code
def yX8_isVariable : MethodName := ⟨RX8, "isVariable", "()Z"⟩
def dkwX8_isVariable_0 : List UInt8 := [42, 180, 0, 9, 199, 0, 7, 4, 167, 0, 4, 3, 172]
abbrev dktX8_isVariable_0 : List UInt8 := dkwX8_isVariable_0 ++ []
theorem dksX8_isVariable_0 : cX8_isVariable.data.toList.drop 0 = dktX8_isVariable_0 := by decide +kernel
theorem dX8_isVariable_0 : decode cX8_isVariable 0 = .ok (.aload_n 0, 1) := dk_42 (dk_at dksX8_isVariable_0 0 rfl rfl)
theorem dX8_isVariable_1 : decode cX8_isVariable 1 = .ok (.getfield 9, 3) := dk_180 0 9 (dk_at dksX8_isVariable_0 1 rfl rfl)
theorem dX8_isVariable_4 : decode cX8_isVariable 4 = .ok (.ifnonnull 7, 3) := dk_199 0 7 (dk_at dksX8_isVariable_0 4 rfl rfl)
theorem dX8_isVariable_7 : decode cX8_isVariable 7 = .ok (.iconst 1, 1) := dk_4 (dk_at dksX8_isVariable_0 7 rfl rfl)
theorem dX8_isVariable_8 : decode cX8_isVariable 8 = .ok (.goto 4, 3) := dk_167 0 4 (dk_at dksX8_isVariable_0 8 rfl rfl)
theorem dX8_isVariable_11 : decode cX8_isVariable 11 = .ok (.iconst 0, 1) := dk_3 (dk_at dksX8_isVariable_0 11 rfl rfl)
theorem dX8_isVariable_12 : decode cX8_isVariable 12 = .ok (.ireturn, 1) := dk_172 (dk_at dksX8_isVariable_0 12 rfl rfl)
abbrev cX8_isFixed : ByteArray := prog_10_method_4_code
def yX8_isFixed : MethodName := ⟨RX8, "isFixed", "(LLogCompactor$Token;)Z"⟩
def dkwX8_isFixed_0 : List UInt8 := [42, 180, 0, 9, 198, 0, 18, 42, 180, 0, 9, 43, 182, 0, 22, 153, 0, 7, 4, 167, 0, 4, 3, 172]
abbrev dktX8_isFixed_0 : List UInt8 := dkwX8_isFixed_0 ++ []
theorem dksX8_isFixed_0 : cX8_isFixed.data.toList.drop 0 = dktX8_isFixed_0 := by decide +kernel
theorem dX8_isFixed_0 : decode cX8_isFixed 0 = .ok (.aload_n 0, 1) := dk_42 (dk_at dksX8_isFixed_0 0 rfl rfl)
theorem dX8_isFixed_1 : decode cX8_isFixed 1 = .ok (.getfield 9, 3) := dk_180 0 9 (dk_at dksX8_isFixed_0 1 rfl rfl)
theorem dX8_isFixed_4 : decode cX8_isFixed 4 = .ok (.ifnull 18, 3) := dk_198 0 18 (dk_at dksX8_isFixed_0 4 rfl rfl)
theorem dX8_isFixed_7 : decode cX8_isFixed 7 = .ok (.aload_n 0, 1) := dk_42 (dk_at dksX8_isFixed_0 7 rfl rfl)
theorem dX8_isFixed_8 : decode cX8_isFixed 8 = .ok (.getfield 9, 3) := dk_180 0 9 (dk_at dksX8_isFixed_0 8 rfl rfl)
theorem dX8_isFixed_11 : decode cX8_isFixed 11 = .ok (.aload_n 1, 1) := dk_43 (dk_at dksX8_isFixed_0 11 rfl rfl)
theorem dX8_isFixed_12 : decode cX8_isFixed 12 = .ok (.invokevirtual 22, 3) := dk_182 0 22 (dk_at dksX8_isFixed_0 12 rfl rfl)
theorem dX8_isFixed_15 : decode cX8_isFixed 15 = .ok (.ifCond .eq 7, 3) := dk_153 0 7 (dk_at dksX8_isFixed_0 15 rfl rfl)
theorem dX8_isFixed_18 : decode cX8_isFixed 18 = .ok (.iconst 1, 1) := dk_4 (dk_at dksX8_isFixed_0 18 rfl rfl)
theorem dX8_isFixed_19 : decode cX8_isFixed 19 = .ok (.goto 4, 3) := dk_167 0 4 (dk_at dksX8_isFixed_0 19 rfl rfl)
theorem dX8_isFixed_22 : decode cX8_isFixed 22 = .ok (.iconst 0, 1) := dk_3 (dk_at dksX8_isFixed_0 22 rfl rfl)
theorem dX8_isFixed_23 : decode cX8_isFixed 23 = .ok (.ireturn, 1) := dk_172 (dk_at dksX8_isFixed_0 23 rfl rfl)
abbrev cX8_union : ByteArray := prog_10_method_6_code
def yX8_union : MethodName := ⟨RX8, "union", "(LLogCompactor$Slot;)LLogCompactor$Slot;"⟩
def dkwX8_union_2 : List UInt8 := [180, 0, 21, 167, 0, 4, 3, 183, 0, 26, 176]
abbrev dktX8_union_2 : List UInt8 := dkwX8_union_2 ++ []
def dkwX8_union_1 : List UInt8 := [182, 0, 22, 153, 0, 5, 42, 176, 187, 0, 10, 89, 42, 180, 0, 21, 43, 180, 0, 21, 160, 0, 10, 42]
abbrev dktX8_union_1 : List UInt8 := dkwX8_union_1 ++ dktX8_union_2
def dkwX8_union_0 : List UInt8 := [42, 180, 0, 9, 198, 0, 26, 43, 180, 0, 9, 198, 0, 19, 42, 180, 0, 9, 43, 180, 0, 9]
abbrev dktX8_union_0 : List UInt8 := dkwX8_union_0 ++ dktX8_union_1
theorem dksX8_union_0 : cX8_union.data.toList.drop 0 = dktX8_union_0 := by decide +kernel
theorem dksX8_union_1 : cX8_union.data.toList.drop 22 = dktX8_union_1 := dk_seg dksX8_union_0 22 rfl rfl
theorem dksX8_union_2 : cX8_union.data.toList.drop 46 = dktX8_union_2 := dk_seg dksX8_union_1 24 rfl rfl
theorem dX8_union_0 : decode cX8_union 0 = .ok (.aload_n 0, 1) := dk_42 (dk_at dksX8_union_0 0 rfl rfl)
theorem dX8_union_1 : decode cX8_union 1 = .ok (.getfield 9, 3) := dk_180 0 9 (dk_at dksX8_union_0 1 rfl rfl)
theorem dX8_union_4 : decode cX8_union 4 = .ok (.ifnull 26, 3) := dk_198 0 26 (dk_at dksX8_union_0 4 rfl rfl)
theorem dX8_union_7 : decode cX8_union 7 = .ok (.aload_n 1, 1) := dk_43 (dk_at dksX8_union_0 7 rfl rfl)
theorem dX8_union_8 : decode cX8_union 8 = .ok (.getfield 9, 3) := dk_180 0 9 (dk_at dksX8_union_0 8 rfl rfl)
theorem dX8_union_11 : decode cX8_union 11 = .ok (.ifnull 19, 3) := dk_198 0 19 (dk_at dksX8_union_0 11 rfl rfl)
theorem dX8_union_14 : decode cX8_union 14 = .ok (.aload_n 0, 1) := dk_42 (dk_at dksX8_union_0 14 rfl rfl)
theorem dX8_union_15 : decode cX8_union 15 = .ok (.getfield 9, 3) := dk_180 0 9 (dk_at dksX8_union_0 15 rfl rfl)
theorem dX8_union_18 : decode cX8_union 18 = .ok (.aload_n 1, 1) := dk_43 (dk_at dksX8_union_0 18 rfl rfl)
theorem dX8_union_19 : decode cX8_union 19 = .ok (.getfield 9, 3) := dk_180 0 9 (dk_at dksX8_union_0 19 rfl rfl)
theorem dX8_union_22 : decode cX8_union 22 = .ok (.invokevirtual 22, 3) := dk_182 0 22 (dk_at dksX8_union_1 0 rfl rfl)
theorem dX8_union_25 : decode cX8_union 25 = .ok (.ifCond .eq 5, 3) := dk_153 0 5 (dk_at dksX8_union_1 3 rfl rfl)
theorem dX8_union_28 : decode cX8_union 28 = .ok (.aload_n 0, 1) := dk_42 (dk_at dksX8_union_1 6 rfl rfl)
theorem dX8_union_29 : decode cX8_union 29 = .ok (.areturn, 1) := dk_176 (dk_at dksX8_union_1 7 rfl rfl)
theorem dX8_union_30 : decode cX8_union 30 = .ok (.new 10, 3) := dk_187 0 10 (dk_at dksX8_union_1 8 rfl rfl)
theorem dX8_union_33 : decode cX8_union 33 = .ok (.dup, 1) := dk_89 (dk_at dksX8_union_1 11 rfl rfl)
theorem dX8_union_34 : decode cX8_union 34 = .ok (.aload_n 0, 1) := dk_42 (dk_at dksX8_union_1 12 rfl rfl)
theorem dX8_union_35 : decode cX8_union 35 = .ok (.getfield 21, 3) := dk_180 0 21 (dk_at dksX8_union_1 13 rfl rfl)
theorem dX8_union_38 : decode cX8_union 38 = .ok (.aload_n 1, 1) := dk_43 (dk_at dksX8_union_1 16 rfl rfl)
theorem dX8_union_39 : decode cX8_union 39 = .ok (.getfield 21, 3) := dk_180 0 21 (dk_at dksX8_union_1 17 rfl rfl)
theorem dX8_union_42 : decode cX8_union 42 = .ok (.if_icmp .ne 10, 3) := dk_160 0 10 (dk_at dksX8_union_1 20 rfl rfl)
theorem dX8_union_45 : decode cX8_union 45 = .ok (.aload_n 0, 1) := dk_42 (dk_at dksX8_union_1 23 rfl rfl)
theorem dX8_union_46 : decode cX8_union 46 = .ok (.getfield 21, 3) := dk_180 0 21 (dk_at dksX8_union_2 0 rfl rfl)
theorem dX8_union_49 : decode cX8_union 49 = .ok (.goto 4, 3) := dk_167 0 4 (dk_at dksX8_union_2 3 rfl rfl)
theorem dX8_union_52 : decode cX8_union 52 = .ok (.iconst 0, 1) := dk_3 (dk_at dksX8_union_2 6 rfl rfl)
theorem dX8_union_53 : decode cX8_union 53 = .ok (.invokespecial 26, 3) := dk_183 0 26 (dk_at dksX8_union_2 7 rfl rfl)
theorem dX8_union_56 : decode cX8_union 56 = .ok (.areturn, 1) := dk_176 (dk_at dksX8_union_2 10 rfl rfl)
abbrev cX8_init : ByteArray := prog_10_method_2_code
def yX8_init : MethodName := ⟨RX8, "<init>", "(I)V"⟩
def dkwX8_init_0 : List UInt8 := [42, 183, 0, 3, 42, 1, 181, 0, 9, 42, 27, 181, 0, 21, 177]
abbrev dktX8_init_0 : List UInt8 := dkwX8_init_0 ++ []
theorem dksX8_init_0 : cX8_init.data.toList.drop 0 = dktX8_init_0 := by decide +kernel
theorem dX8_init_0 : decode cX8_init 0 = .ok (.aload_n 0, 1) := dk_42 (dk_at dksX8_init_0 0 rfl rfl)
theorem dX8_init_1 : decode cX8_init 1 = .ok (.invokespecial 3, 3) := dk_183 0 3 (dk_at dksX8_init_0 1 rfl rfl)
theorem dX8_init_4 : decode cX8_init 4 = .ok (.aload_n 0, 1) := dk_42 (dk_at dksX8_init_0 4 rfl rfl)
theorem dX8_init_5 : decode cX8_init 5 = .ok (.aconst_null, 1) := dk_1 (dk_at dksX8_init_0 5 rfl rfl)
theorem dX8_init_6 : decode cX8_init 6 = .ok (.putfield 9, 3) := dk_181 0 9 (dk_at dksX8_init_0 6 rfl rfl)
theorem dX8_init_9 : decode cX8_init 9 = .ok (.aload_n 0, 1) := dk_42 (dk_at dksX8_init_0 9 rfl rfl)
theorem dX8_init_10 : decode cX8_init 10 = .ok (.iload_n 1, 1) := dk_27 (dk_at dksX8_init_0 10 rfl rfl)
theorem dX8_init_11 : decode cX8_init 11 = .ok (.putfield 21, 3) := dk_181 0 21 (dk_at dksX8_init_0 11 rfl rfl)
theorem dX8_init_14 : decode cX8_init 14 = .ok (.return_, 1) := dk_177 (dk_at dksX8_init_0 14 rfl rfl)
abbrev cX8_matches : ByteArray := prog_10_method_5_code
def yX8_matches : MethodName := ⟨RX8, "matches", "(LLogCompactor$Token;)Z"⟩
def dkwX8_matches_1 : List UInt8 := [160, 0, 7, 4, 167, 0, 15, 3, 167, 0, 11, 42, 180, 0, 9, 43, 182, 0, 22, 172]
abbrev dktX8_matches_1 : List UInt8 := dkwX8_matches_1 ++ []
def dkwX8_matches_0 : List UInt8 := [42, 180, 0, 9, 199, 0, 29, 42, 180, 0, 21, 153, 0, 14, 42, 180, 0, 21, 43, 180, 0, 15]
abbrev dktX8_matches_0 : List UInt8 := dkwX8_matches_0 ++ dktX8_matches_1
theorem dksX8_matches_0 : cX8_matches.data.toList.drop 0 = dktX8_matches_0 := by decide +kernel
theorem dksX8_matches_1 : cX8_matches.data.toList.drop 22 = dktX8_matches_1 := dk_seg dksX8_matches_0 22 rfl rfl
theorem dX8_matches_0 : decode cX8_matches 0 = .ok (.aload_n 0, 1) := dk_42 (dk_at dksX8_matches_0 0 rfl rfl)
theorem dX8_matches_1 : decode cX8_matches 1 = .ok (.getfield 9, 3) := dk_180 0 9 (dk_at dksX8_matches_0 1 rfl rfl)
theorem dX8_matches_4 : decode cX8_matches 4 = .ok (.ifnonnull 29, 3) := dk_199 0 29 (dk_at dksX8_matches_0 4 rfl rfl)
theorem dX8_matches_7 : decode cX8_matches 7 = .ok (.aload_n 0, 1) := dk_42 (dk_at dksX8_matches_0 7 rfl rfl)
theorem dX8_matches_8 : decode cX8_matches 8 = .ok (.getfield 21, 3) := dk_180 0 21 (dk_at dksX8_matches_0 8 rfl rfl)
theorem dX8_matches_11 : decode cX8_matches 11 = .ok (.ifCond .eq 14, 3) := dk_153 0 14 (dk_at dksX8_matches_0 11 rfl rfl)
theorem dX8_matches_14 : decode cX8_matches 14 = .ok (.aload_n 0, 1) := dk_42 (dk_at dksX8_matches_0 14 rfl rfl)
theorem dX8_matches_15 : decode cX8_matches 15 = .ok (.getfield 21, 3) := dk_180 0 21 (dk_at dksX8_matches_0 15 rfl rfl)
theorem dX8_matches_18 : decode cX8_matches 18 = .ok (.aload_n 1, 1) := dk_43 (dk_at dksX8_matches_0 18 rfl rfl)
theorem dX8_matches_19 : decode cX8_matches 19 = .ok (.getfield 15, 3) := dk_180 0 15 (dk_at dksX8_matches_0 19 rfl rfl)
theorem dX8_matches_22 : decode cX8_matches 22 = .ok (.if_icmp .ne 7, 3) := dk_160 0 7 (dk_at dksX8_matches_1 0 rfl rfl)
theorem dX8_matches_25 : decode cX8_matches 25 = .ok (.iconst 1, 1) := dk_4 (dk_at dksX8_matches_1 3 rfl rfl)
theorem dX8_matches_26 : decode cX8_matches 26 = .ok (.goto 15, 3) := dk_167 0 15 (dk_at dksX8_matches_1 4 rfl rfl)
theorem dX8_matches_29 : decode cX8_matches 29 = .ok (.iconst 0, 1) := dk_3 (dk_at dksX8_matches_1 7 rfl rfl)
theorem dX8_matches_30 : decode cX8_matches 30 = .ok (.goto 11, 3) := dk_167 0 11 (dk_at dksX8_matches_1 8 rfl rfl)
theorem dX8_matches_33 : decode cX8_matches 33 = .ok (.aload_n 0, 1) := dk_42 (dk_at dksX8_matches_1 11 rfl rfl)
theorem dX8_matches_34 : decode cX8_matches 34 = .ok (.getfield 9, 3) := dk_180 0 9 (dk_at dksX8_matches_1 12 rfl rfl)
theorem dX8_matches_37 : decode cX8_matches 37 = .ok (.aload_n 1, 1) := dk_43 (dk_at dksX8_matches_1 15 rfl rfl)
theorem dX8_matches_38 : decode cX8_matches 38 = .ok (.invokevirtual 22, 3) := dk_182 0 22 (dk_at dksX8_matches_1 16 rfl rfl)
theorem dX8_matches_41 : decode cX8_matches 41 = .ok (.ireturn, 1) := dk_172 (dk_at dksX8_matches_1 19 rfl rfl)
abbrev cX8_init_2 : ByteArray := prog_10_method_1_code
def yX8_init_2 : MethodName := ⟨RX8, "<init>", "(LLogCompactor$Token;)V"⟩
def dkwX8_init_2_0 : List UInt8 := [42, 183, 0, 3, 42, 43, 181, 0, 9, 42, 43, 180, 0, 15, 181, 0, 21, 177]
abbrev dktX8_init_2_0 : List UInt8 := dkwX8_init_2_0 ++ []
theorem dksX8_init_2_0 : cX8_init_2.data.toList.drop 0 = dktX8_init_2_0 := by decide +kernel
theorem dX8_init_2_0 : decode cX8_init_2 0 = .ok (.aload_n 0, 1) := dk_42 (dk_at dksX8_init_2_0 0 rfl rfl)
theorem dX8_init_2_1 : decode cX8_init_2 1 = .ok (.invokespecial 3, 3) := dk_183 0 3 (dk_at dksX8_init_2_0 1 rfl rfl)
theorem dX8_init_2_4 : decode cX8_init_2 4 = .ok (.aload_n 0, 1) := dk_42 (dk_at dksX8_init_2_0 4 rfl rfl)
theorem dX8_init_2_5 : decode cX8_init_2 5 = .ok (.aload_n 1, 1) := dk_43 (dk_at dksX8_init_2_0 5 rfl rfl)
theorem dX8_init_2_6 : decode cX8_init_2 6 = .ok (.putfield 9, 3) := dk_181 0 9 (dk_at dksX8_init_2_0 6 rfl rfl)
theorem dX8_init_2_9 : decode cX8_init_2 9 = .ok (.aload_n 0, 1) := dk_42 (dk_at dksX8_init_2_0 9 rfl rfl)
theorem dX8_init_2_10 : decode cX8_init_2 10 = .ok (.aload_n 1, 1) := dk_43 (dk_at dksX8_init_2_0 10 rfl rfl)
theorem dX8_init_2_11 : decode cX8_init_2 11 = .ok (.getfield 15, 3) := dk_180 0 15 (dk_at dksX8_init_2_0 11 rfl rfl)
theorem dX8_init_2_14 : decode cX8_init_2 14 = .ok (.putfield 21, 3) := dk_181 0 21 (dk_at dksX8_init_2_0 14 rfl rfl)
theorem dX8_init_2_17 : decode cX8_init_2 17 = .ok (.return_, 1) := dk_177 (dk_at dksX8_init_2_0 17 rfl rfl)
abbrev cX8_sign : ByteArray := prog_10_method_8_code
def yX8_sign : MethodName := ⟨RX8, "sign", "()Ljava/lang/String;"⟩
def dkwX8_sign_1 : List UInt8 := [18, 39, 167, 0, 18, 42, 180, 0, 21, 4, 160, 0, 8, 18, 41, 167, 0, 5, 18, 43, 176]
abbrev dktX8_sign_1 : List UInt8 := dkwX8_sign_1 ++ []
def dkwX8_sign_0 : List UInt8 := [42, 180, 0, 9, 198, 0, 13, 42, 180, 0, 9, 180, 0, 29, 167, 0, 30, 42, 180, 0, 21, 154, 0, 8]
abbrev dktX8_sign_0 : List UInt8 := dkwX8_sign_0 ++ dktX8_sign_1
theorem dksX8_sign_0 : cX8_sign.data.toList.drop 0 = dktX8_sign_0 := by decide +kernel
theorem dksX8_sign_1 : cX8_sign.data.toList.drop 24 = dktX8_sign_1 := dk_seg dksX8_sign_0 24 rfl rfl
theorem dX8_sign_0 : decode cX8_sign 0 = .ok (.aload_n 0, 1) := dk_42 (dk_at dksX8_sign_0 0 rfl rfl)
theorem dX8_sign_1 : decode cX8_sign 1 = .ok (.getfield 9, 3) := dk_180 0 9 (dk_at dksX8_sign_0 1 rfl rfl)
theorem dX8_sign_4 : decode cX8_sign 4 = .ok (.ifnull 13, 3) := dk_198 0 13 (dk_at dksX8_sign_0 4 rfl rfl)
theorem dX8_sign_7 : decode cX8_sign 7 = .ok (.aload_n 0, 1) := dk_42 (dk_at dksX8_sign_0 7 rfl rfl)
theorem dX8_sign_8 : decode cX8_sign 8 = .ok (.getfield 9, 3) := dk_180 0 9 (dk_at dksX8_sign_0 8 rfl rfl)
theorem dX8_sign_11 : decode cX8_sign 11 = .ok (.getfield 29, 3) := dk_180 0 29 (dk_at dksX8_sign_0 11 rfl rfl)
theorem dX8_sign_14 : decode cX8_sign 14 = .ok (.goto 30, 3) := dk_167 0 30 (dk_at dksX8_sign_0 14 rfl rfl)
theorem dX8_sign_17 : decode cX8_sign 17 = .ok (.aload_n 0, 1) := dk_42 (dk_at dksX8_sign_0 17 rfl rfl)
theorem dX8_sign_18 : decode cX8_sign 18 = .ok (.getfield 21, 3) := dk_180 0 21 (dk_at dksX8_sign_0 18 rfl rfl)
theorem dX8_sign_21 : decode cX8_sign 21 = .ok (.ifCond .ne 8, 3) := dk_154 0 8 (dk_at dksX8_sign_0 21 rfl rfl)
theorem dX8_sign_24 : decode cX8_sign 24 = .ok (.ldc 39, 2) := dk_18 39 (dk_at dksX8_sign_1 0 rfl rfl)
theorem dX8_sign_26 : decode cX8_sign 26 = .ok (.goto 18, 3) := dk_167 0 18 (dk_at dksX8_sign_1 2 rfl rfl)
theorem dX8_sign_29 : decode cX8_sign 29 = .ok (.aload_n 0, 1) := dk_42 (dk_at dksX8_sign_1 5 rfl rfl)
theorem dX8_sign_30 : decode cX8_sign 30 = .ok (.getfield 21, 3) := dk_180 0 21 (dk_at dksX8_sign_1 6 rfl rfl)
theorem dX8_sign_33 : decode cX8_sign 33 = .ok (.iconst 1, 1) := dk_4 (dk_at dksX8_sign_1 9 rfl rfl)
theorem dX8_sign_34 : decode cX8_sign 34 = .ok (.if_icmp .ne 8, 3) := dk_160 0 8 (dk_at dksX8_sign_1 10 rfl rfl)
theorem dX8_sign_37 : decode cX8_sign 37 = .ok (.ldc 41, 2) := dk_18 41 (dk_at dksX8_sign_1 13 rfl rfl)
theorem dX8_sign_39 : decode cX8_sign 39 = .ok (.goto 5, 3) := dk_167 0 5 (dk_at dksX8_sign_1 15 rfl rfl)
theorem dX8_sign_42 : decode cX8_sign 42 = .ok (.ldc 43, 2) := dk_18 43 (dk_at dksX8_sign_1 18 rfl rfl)
theorem dX8_sign_44 : decode cX8_sign 44 = .ok (.areturn, 1) := dk_176 (dk_at dksX8_sign_1 20 rfl rfl)
theorem q128 : (Jvm.Cond.initialized "LogCompactor$Slot") ∈ lw_all := lw_g (lw_at lw_m1 32 rfl) rfl
theorem q418 : (Jvm.Cond.selects "LogCompactor$Slot" ({ cls := "java/lang/Object", name := "getClass", desc := "()Ljava/lang/Class;" } : Jvm.MethodName) ({ cls := "java/lang/Object", name := "getClass", desc := "()Ljava/lang/Class;" } : Jvm.MethodName)) ∈ lw_all := lw_g (lw_at lw_m2 82 rfl) rfl
theorem q534 : (Jvm.Cond.instanceMethod ({ cls := "LogCompactor$Slot", name := "cost", desc := "()I" } : Jvm.MethodName)) ∈ lw_all := lw_g (lw_at lw_m2 198 rfl) rfl
theorem q535 : (Jvm.Cond.selects "LogCompactor$Slot" ({ cls := "LogCompactor$Slot", name := "cost", desc := "()I" } : Jvm.MethodName) ({ cls := "LogCompactor$Slot", name := "cost", desc := "()I" } : Jvm.MethodName)) ∈ lw_all := lw_g (lw_at lw_m2 199 rfl) rfl
theorem q536 : (Jvm.Cond.code ({ cls := "LogCompactor$Slot", name := "cost", desc := "()I" } : Jvm.MethodName) prog_10_method_7_code (1 : Nat) (Option.some Jvm.ClassFile.FieldType.int)) ∈ lw_all := lw_g (lw_at lw_m2 200 rfl) rfl
theorem q537 : (Jvm.Cond.methodLink "LogCompactor$Slot" (33 : Nat) ({ cls := "java/lang/String", name := "length", desc := "()I" } : Jvm.MethodName)) ∈ lw_all := lw_g (lw_at lw_m2 201 rfl) rfl
theorem q551 : (Jvm.Cond.instanceMethod ({ cls := "LogCompactor$Slot", name := "isVariable", desc := "()Z" } : Jvm.MethodName)) ∈ lw_all := lw_g (lw_at lw_m2 215 rfl) rfl
theorem q552 : (Jvm.Cond.selects "LogCompactor$Slot" ({ cls := "LogCompactor$Slot", name := "isVariable", desc := "()Z" } : Jvm.MethodName) ({ cls := "LogCompactor$Slot", name := "isVariable", desc := "()Z" } : Jvm.MethodName)) ∈ lw_all := lw_g (lw_at lw_m2 216 rfl) rfl
theorem q553 : (Jvm.Cond.code ({ cls := "LogCompactor$Slot", name := "isVariable", desc := "()Z" } : Jvm.MethodName) prog_10_method_3_code (1 : Nat) (Option.some Jvm.ClassFile.FieldType.boolean)) ∈ lw_all := lw_g (lw_at lw_m2 217 rfl) rfl
theorem q658 : (Jvm.Cond.instanceMethod ({ cls := "LogCompactor$Slot", name := "isFixed", desc := "(LLogCompactor$Token;)Z" } : Jvm.MethodName)) ∈ lw_all := lw_g (lw_at lw_m3 82 rfl) rfl
theorem q659 : (Jvm.Cond.selects "LogCompactor$Slot" ({ cls := "LogCompactor$Slot", name := "isFixed", desc := "(LLogCompactor$Token;)Z" } : Jvm.MethodName) ({ cls := "LogCompactor$Slot", name := "isFixed", desc := "(LLogCompactor$Token;)Z" } : Jvm.MethodName)) ∈ lw_all := lw_g (lw_at lw_m3 83 rfl) rfl
theorem q660 : (Jvm.Cond.code ({ cls := "LogCompactor$Slot", name := "isFixed", desc := "(LLogCompactor$Token;)Z" } : Jvm.MethodName) prog_10_method_4_code (2 : Nat) (Option.some Jvm.ClassFile.FieldType.boolean)) ∈ lw_all := lw_g (lw_at lw_m3 84 rfl) rfl
theorem q661 : (Jvm.Cond.methodLink "LogCompactor$Slot" (22 : Nat) ({ cls := "LogCompactor$Token", name := "isLike", desc := "(LLogCompactor$Token;)Z" } : Jvm.MethodName)) ∈ lw_all := lw_g (lw_at lw_m3 85 rfl) rfl
theorem q704 : (Jvm.Cond.instanceMethod ({ cls := "LogCompactor$Slot", name := "union", desc := "(LLogCompactor$Slot;)LLogCompactor$Slot;" } : Jvm.MethodName)) ∈ lw_all := lw_g (lw_at lw_m3 128 rfl) rfl
theorem q705 : (Jvm.Cond.selects "LogCompactor$Slot" ({ cls := "LogCompactor$Slot", name := "union", desc := "(LLogCompactor$Slot;)LLogCompactor$Slot;" } : Jvm.MethodName) ({ cls := "LogCompactor$Slot", name := "union", desc := "(LLogCompactor$Slot;)LLogCompactor$Slot;" } : Jvm.MethodName)) ∈ lw_all := lw_g (lw_at lw_m3 129 rfl) rfl
theorem q706 : (Jvm.Cond.code ({ cls := "LogCompactor$Slot", name := "union", desc := "(LLogCompactor$Slot;)LLogCompactor$Slot;" } : Jvm.MethodName) prog_10_method_6_code (2 : Nat) (Option.some (Jvm.ClassFile.FieldType.object "LogCompactor$Slot"))) ∈ lw_all := lw_g (lw_at lw_m3 130 rfl) rfl
theorem q707 : (Jvm.Cond.classLink "LogCompactor$Slot" (10 : Nat) "LogCompactor$Slot") ∈ lw_all := lw_g (lw_at lw_m3 131 rfl) rfl
theorem q708 : (Jvm.Cond.instantiable "LogCompactor$Slot" (2 : Nat)) ∈ lw_all := lw_g (lw_at lw_m3 132 rfl) rfl
theorem q709 : (Jvm.Cond.methodLink "LogCompactor$Slot" (26 : Nat) ({ cls := "LogCompactor$Slot", name := "<init>", desc := "(I)V" } : Jvm.MethodName)) ∈ lw_all := lw_g (lw_at lw_m3 133 rfl) rfl
theorem q710 : (Jvm.Cond.instanceMethod ({ cls := "LogCompactor$Slot", name := "<init>", desc := "(I)V" } : Jvm.MethodName)) ∈ lw_all := lw_g (lw_at lw_m3 134 rfl) rfl
theorem q711 : (Jvm.Cond.code ({ cls := "LogCompactor$Slot", name := "<init>", desc := "(I)V" } : Jvm.MethodName) prog_10_method_2_code (2 : Nat) (Option.none : Option Jvm.ClassFile.FieldType)) ∈ lw_all := lw_g (lw_at lw_m3 135 rfl) rfl
theorem q712 : (Jvm.Cond.methodLink "LogCompactor$Slot" (3 : Nat) ({ cls := "java/lang/Object", name := "<init>", desc := "()V" } : Jvm.MethodName)) ∈ lw_all := lw_g (lw_at lw_m3 136 rfl) rfl
theorem q713 : (Jvm.Cond.fieldLink "LogCompactor$Slot" (9 : Nat) "LogCompactor$Slot" "fixed" "LLogCompactor$Token;") ∈ lw_all := lw_g (lw_at lw_m3 137 rfl) rfl
theorem q716 : (Jvm.Cond.fieldLink "LogCompactor$Slot" (21 : Nat) "LogCompactor$Slot" "type" "I") ∈ lw_all := lw_g (lw_at lw_m3 140 rfl) rfl
theorem q718 : (Jvm.Cond.laysFinal "LogCompactor$Slot" "LogCompactor$Slot" "fixed" "LLogCompactor$Token;") ∈ lw_all := lw_g (lw_at lw_m3 142 rfl) rfl
theorem q719 : (Jvm.Cond.soleField "LogCompactor$Slot" "fixed") ∈ lw_all := lw_g (lw_at lw_m3 143 rfl) rfl
theorem q720 : (Jvm.Cond.laysFinal "LogCompactor$Slot" "LogCompactor$Slot" "type" "I") ∈ lw_all := lw_g (lw_at lw_m3 144 rfl) rfl
theorem q721 : (Jvm.Cond.soleField "LogCompactor$Slot" "type") ∈ lw_all := lw_g (lw_at lw_m3 145 rfl) rfl
theorem q722 : (Jvm.Cond.superclass "LogCompactor$Slot" "java/lang/Object") ∈ lw_all := lw_g (lw_at lw_m3 146 rfl) rfl
theorem q1220 : (Jvm.Cond.selects "LogCompactor$Slot" ({ cls := "java/lang/Object", name := "equals", desc := "(Ljava/lang/Object;)Z" } : Jvm.MethodName) ({ cls := "java/lang/Object", name := "equals", desc := "(Ljava/lang/Object;)Z" } : Jvm.MethodName)) ∈ lw_all := lw_g (lw_at lw_m5 164 rfl) rfl
theorem q1383 : (Jvm.Cond.fieldLinkNest "LogCompactor$Slot" (29 : Nat) "LogCompactor$Token" "text" "Ljava/lang/String;" "LogCompactor") ∈ lw_tbl := lw_at lw_m6 87 rfl
theorem q1386 : (Jvm.Cond.fieldLinkNest "LogCompactor$Slot" (15 : Nat) "LogCompactor$Token" "type" "I" "LogCompactor") ∈ lw_tbl := lw_at lw_m6 90 rfl
theorem q1432 : (Jvm.Cond.instanceMethod ({ cls := "LogCompactor$Slot", name := "matches", desc := "(LLogCompactor$Token;)Z" } : Jvm.MethodName)) ∈ lw_all := lw_g (lw_at lw_m6 136 rfl) rfl
theorem q1433 : (Jvm.Cond.selects "LogCompactor$Slot" ({ cls := "LogCompactor$Slot", name := "matches", desc := "(LLogCompactor$Token;)Z" } : Jvm.MethodName) ({ cls := "LogCompactor$Slot", name := "matches", desc := "(LLogCompactor$Token;)Z" } : Jvm.MethodName)) ∈ lw_all := lw_g (lw_at lw_m6 137 rfl) rfl
theorem q1434 : (Jvm.Cond.code ({ cls := "LogCompactor$Slot", name := "matches", desc := "(LLogCompactor$Token;)Z" } : Jvm.MethodName) prog_10_method_5_code (2 : Nat) (Option.some Jvm.ClassFile.FieldType.boolean)) ∈ lw_all := lw_g (lw_at lw_m6 138 rfl) rfl
theorem q1445 : (Jvm.Cond.instanceMethod ({ cls := "LogCompactor$Slot", name := "<init>", desc := "(LLogCompactor$Token;)V" } : Jvm.MethodName)) ∈ lw_all := lw_g (lw_at lw_m6 149 rfl) rfl
theorem q1446 : (Jvm.Cond.code ({ cls := "LogCompactor$Slot", name := "<init>", desc := "(LLogCompactor$Token;)V" } : Jvm.MethodName) prog_10_method_1_code (2 : Nat) (Option.none : Option Jvm.ClassFile.FieldType)) ∈ lw_all := lw_g (lw_at lw_m6 150 rfl) rfl
theorem q1653 : (Jvm.Cond.instanceMethod ({ cls := "LogCompactor$Slot", name := "sign", desc := "()Ljava/lang/String;" } : Jvm.MethodName)) ∈ lw_all := lw_g (lw_at lw_m7 117 rfl) rfl
theorem q1654 : (Jvm.Cond.selects "LogCompactor$Slot" ({ cls := "LogCompactor$Slot", name := "sign", desc := "()Ljava/lang/String;" } : Jvm.MethodName) ({ cls := "LogCompactor$Slot", name := "sign", desc := "()Ljava/lang/String;" } : Jvm.MethodName)) ∈ lw_all := lw_g (lw_at lw_m7 118 rfl) rfl
theorem q1655 : (Jvm.Cond.code ({ cls := "LogCompactor$Slot", name := "sign", desc := "()Ljava/lang/String;" } : Jvm.MethodName) prog_10_method_8_code (1 : Nat) (Option.some (Jvm.ClassFile.FieldType.object "java/lang/String"))) ∈ lw_all := lw_g (lw_at lw_m7 119 rfl) rfl
theorem q1656 : (Jvm.Cond.stringRef "LogCompactor$Slot" (39 : Nat) "*") ∈ lw_tbl := lw_at lw_m7 120 rfl
theorem q1657 : (Jvm.Cond.stringRef "LogCompactor$Slot" (41 : Nat) "+") ∈ lw_tbl := lw_at lw_m7 121 rfl
theorem q1658 : (Jvm.Cond.stringRef "LogCompactor$Slot" (43 : Nat) "#") ∈ lw_tbl := lw_at lw_m7 122 rfl
theorem q2339 : (Jvm.Cond.castable "LogCompactor$Slot" "java/lang/Object") ∈ lw_tbl := lw_at lw_m10 83 rfl
theorem in_X8 : ∀ w ∈ wsX80, w ∈ lw_all := lw_in wsX80 [718, 720] (by decide +kernel) (by decide +kernel)

