/-! LogCompactorModel -/
set_option maxRecDepth 100000
def RX4 : String := "LogCompactorModel"
def TX4 : u_T := fun k => match k with
  | 0 => ("LogCompactorModel", "m", "[I", true)
  | 1 => ("LogCompactorModel", "saved", "[I", true)
  | 2 => ("LogCompactorModel", "aside", "[I", true)
  | 3 => ("LogCompactorModel", "isSaved", "Z", false)
  | 4 => ("LogCompactorModel", "past", "[I", true)
  | 5 => ("LogCompactorModel", "changes", "I", false)
  | 6 => ("LogCompactorModel", "thrown", "I", false)
  | 7 => ("LogCompactorModel", "tokens", "[I", true)
  | 8 => ("LogCompactorModel", "from", "[I", true)
  | 9 => ("LogCompactorModel", "to", "[I", true)
  | 10 => ("LogCompactorModel", "isReport", "Z", false)
  | 11 => ("LogCompactorModel", "codes", "[I", true)
  | 12 => ("LogCompactorModel", "details", "[I", true)
  | 13 => ("LogCompactorModel", "fed", "I", false)
  | 14 => ("LogCompactorModel", "buffer", "[I", true)
  | 15 => ("LogCompactorModel", "patterned", "I", false)
  | 16 => ("LogCompactorModel", "pattern", "[I", true)
  | 17 => ("LogCompactorModel", "rows", "I", false)
  | 18 => ("LogCompactorModel", "rowLine", "[I", true)
  | 19 => ("LogCompactorModel", "isQuery", "Z", false)
  | 20 => ("LogCompactorModel", "conditions", "I", false)
  | 21 => ("LogCompactorModel", "condition", "[I", true)
  | 22 => ("LogCompactorModel", "query", "[I", true)
  | 23 => ("LogCompactorModel", "readMany", "I", false)
  | 24 => ("LogCompactorModel", "read", "[I", true)
  | 25 => ("LogCompactorModel", "at", "I", false)
  | _ => ("LogCompactorModel", "isBad", "Z", false)
def tyX4 : Nat → FieldType := fun k => match k with
  | 0 => .array .int
  | 1 => .array .int
  | 2 => .array .int
  | 3 => .boolean
  | 4 => .array .int
  | 5 => .int
  | 6 => .int
  | 7 => .array .int
  | 8 => .array .int
  | 9 => .array .int
  | 10 => .boolean
  | 11 => .array .int
  | 12 => .array .int
  | 13 => .int
  | 14 => .array .int
  | 15 => .int
  | 16 => .array .int
  | 17 => .int
  | 18 => .array .int
  | 19 => .boolean
  | 20 => .int
  | 21 => .array .int
  | 22 => .array .int
  | 23 => .int
  | 24 => .array .int
  | 25 => .int
  | _ => .boolean
abbrev wsX40 : List Cond := u_ws RX4 TX4 27
set_option maxRecDepth 100000 in
theorem nmX4 : ∀ a, a < 27 → ∀ b, b < 27 → a ≠ b → (TX4 a).2.1 ≠ (TX4 b).2.1 := by decide +kernel
set_option maxRecDepth 100000 in
theorem tyX4_ok : ∀ k, k < 27 → parseFieldDescriptor (TX4 k).2.2.1 = some (tyX4 k) := by decide +kernel
abbrev cX4_init : ByteArray := prog_17_method_1_code
def yX4_init : MethodName := ⟨RX4, "<init>", "()V"⟩
def dkwX4_init_6 : List UInt8 := [177]
abbrev dktX4_init_6 : List UInt8 := dkwX4_init_6 ++ []
def dkwX4_init_5 : List UInt8 := [16, 60, 188, 10, 181, 0, 49, 42, 17, 1, 164, 188, 10, 181, 0, 52, 42, 180, 0, 9, 4, 16, 50, 79]
abbrev dktX4_init_5 : List UInt8 := dkwX4_init_5 ++ dktX4_init_6
def dkwX4_init_4 : List UInt8 := [188, 10, 181, 0, 40, 42, 16, 40, 188, 10, 181, 0, 43, 42, 17, 1, 164, 188, 10, 181, 0, 46, 42]
abbrev dktX4_init_4 : List UInt8 := dkwX4_init_4 ++ dktX4_init_5
def dkwX4_init_3 : List UInt8 := [188, 10, 181, 0, 31, 42, 5, 188, 10, 181, 0, 34, 42, 16, 60, 188, 10, 181, 0, 37, 42, 16, 41]
abbrev dktX4_init_3 : List UInt8 := dkwX4_init_3 ++ dktX4_init_4
def dkwX4_init_2 : List UInt8 := [181, 0, 22, 42, 17, 3, 52, 188, 10, 181, 0, 25, 42, 17, 3, 52, 188, 10, 181, 0, 28, 42, 5]
abbrev dktX4_init_2 : List UInt8 := dkwX4_init_2 ++ dktX4_init_3
def dkwX4_init_1 : List UInt8 := [17, 7, 172, 188, 10, 181, 0, 16, 42, 17, 76, 184, 188, 10, 181, 0, 19, 42, 16, 41, 188, 10]
abbrev dktX4_init_1 : List UInt8 := dkwX4_init_1 ++ dktX4_init_2
def dkwX4_init_0 : List UInt8 := [42, 183, 0, 1, 42, 17, 7, 172, 188, 10, 181, 0, 9, 42, 17, 7, 172, 188, 10, 181, 0, 13, 42]
abbrev dktX4_init_0 : List UInt8 := dkwX4_init_0 ++ dktX4_init_1
theorem dksX4_init_0 : cX4_init.data.toList.drop 0 = dktX4_init_0 := by decide +kernel
theorem dksX4_init_1 : cX4_init.data.toList.drop 23 = dktX4_init_1 := dk_seg dksX4_init_0 23 rfl rfl
theorem dksX4_init_2 : cX4_init.data.toList.drop 45 = dktX4_init_2 := dk_seg dksX4_init_1 22 rfl rfl
theorem dksX4_init_3 : cX4_init.data.toList.drop 68 = dktX4_init_3 := dk_seg dksX4_init_2 23 rfl rfl
theorem dksX4_init_4 : cX4_init.data.toList.drop 91 = dktX4_init_4 := dk_seg dksX4_init_3 23 rfl rfl
theorem dksX4_init_5 : cX4_init.data.toList.drop 114 = dktX4_init_5 := dk_seg dksX4_init_4 23 rfl rfl
theorem dksX4_init_6 : cX4_init.data.toList.drop 138 = dktX4_init_6 := dk_seg dksX4_init_5 24 rfl rfl
theorem dX4_init_0 : decode cX4_init 0 = .ok (.aload_n 0, 1) := dk_42 (dk_at dksX4_init_0 0 rfl rfl)
theorem dX4_init_1 : decode cX4_init 1 = .ok (.invokespecial 1, 3) := dk_183 0 1 (dk_at dksX4_init_0 1 rfl rfl)
theorem dX4_init_4 : decode cX4_init 4 = .ok (.aload_n 0, 1) := dk_42 (dk_at dksX4_init_0 4 rfl rfl)
theorem dX4_init_5 : decode cX4_init 5 = .ok (.sipush 1964, 3) := dk_17 7 172 (dk_at dksX4_init_0 5 rfl rfl)
theorem dX4_init_8 : decode cX4_init 8 = .ok (.newarray .int, 2) := dk_188_10 (dk_at dksX4_init_0 8 rfl rfl)
theorem dX4_init_10 : decode cX4_init 10 = .ok (.putfield 9, 3) := dk_181 0 9 (dk_at dksX4_init_0 10 rfl rfl)
theorem dX4_init_13 : decode cX4_init 13 = .ok (.aload_n 0, 1) := dk_42 (dk_at dksX4_init_0 13 rfl rfl)
theorem dX4_init_14 : decode cX4_init 14 = .ok (.sipush 1964, 3) := dk_17 7 172 (dk_at dksX4_init_0 14 rfl rfl)
theorem dX4_init_17 : decode cX4_init 17 = .ok (.newarray .int, 2) := dk_188_10 (dk_at dksX4_init_0 17 rfl rfl)
theorem dX4_init_19 : decode cX4_init 19 = .ok (.putfield 13, 3) := dk_181 0 13 (dk_at dksX4_init_0 19 rfl rfl)
theorem dX4_init_22 : decode cX4_init 22 = .ok (.aload_n 0, 1) := dk_42 (dk_at dksX4_init_0 22 rfl rfl)
theorem dX4_init_23 : decode cX4_init 23 = .ok (.sipush 1964, 3) := dk_17 7 172 (dk_at dksX4_init_1 0 rfl rfl)
theorem dX4_init_26 : decode cX4_init 26 = .ok (.newarray .int, 2) := dk_188_10 (dk_at dksX4_init_1 3 rfl rfl)
theorem dX4_init_28 : decode cX4_init 28 = .ok (.putfield 16, 3) := dk_181 0 16 (dk_at dksX4_init_1 5 rfl rfl)
theorem dX4_init_31 : decode cX4_init 31 = .ok (.aload_n 0, 1) := dk_42 (dk_at dksX4_init_1 8 rfl rfl)
theorem dX4_init_32 : decode cX4_init 32 = .ok (.sipush 19640, 3) := dk_17 76 184 (dk_at dksX4_init_1 9 rfl rfl)
theorem dX4_init_35 : decode cX4_init 35 = .ok (.newarray .int, 2) := dk_188_10 (dk_at dksX4_init_1 12 rfl rfl)
theorem dX4_init_37 : decode cX4_init 37 = .ok (.putfield 19, 3) := dk_181 0 19 (dk_at dksX4_init_1 14 rfl rfl)
theorem dX4_init_40 : decode cX4_init 40 = .ok (.aload_n 0, 1) := dk_42 (dk_at dksX4_init_1 17 rfl rfl)
theorem dX4_init_41 : decode cX4_init 41 = .ok (.bipush 41, 2) := dk_16 41 (dk_at dksX4_init_1 18 rfl rfl)
theorem dX4_init_43 : decode cX4_init 43 = .ok (.newarray .int, 2) := dk_188_10 (dk_at dksX4_init_1 20 rfl rfl)
theorem dX4_init_45 : decode cX4_init 45 = .ok (.putfield 22, 3) := dk_181 0 22 (dk_at dksX4_init_2 0 rfl rfl)
theorem dX4_init_48 : decode cX4_init 48 = .ok (.aload_n 0, 1) := dk_42 (dk_at dksX4_init_2 3 rfl rfl)
theorem dX4_init_49 : decode cX4_init 49 = .ok (.sipush 820, 3) := dk_17 3 52 (dk_at dksX4_init_2 4 rfl rfl)
theorem dX4_init_52 : decode cX4_init 52 = .ok (.newarray .int, 2) := dk_188_10 (dk_at dksX4_init_2 7 rfl rfl)
theorem dX4_init_54 : decode cX4_init 54 = .ok (.putfield 25, 3) := dk_181 0 25 (dk_at dksX4_init_2 9 rfl rfl)
theorem dX4_init_57 : decode cX4_init 57 = .ok (.aload_n 0, 1) := dk_42 (dk_at dksX4_init_2 12 rfl rfl)
theorem dX4_init_58 : decode cX4_init 58 = .ok (.sipush 820, 3) := dk_17 3 52 (dk_at dksX4_init_2 13 rfl rfl)
theorem dX4_init_61 : decode cX4_init 61 = .ok (.newarray .int, 2) := dk_188_10 (dk_at dksX4_init_2 16 rfl rfl)
theorem dX4_init_63 : decode cX4_init 63 = .ok (.putfield 28, 3) := dk_181 0 28 (dk_at dksX4_init_2 18 rfl rfl)
theorem dX4_init_66 : decode cX4_init 66 = .ok (.aload_n 0, 1) := dk_42 (dk_at dksX4_init_2 21 rfl rfl)
theorem dX4_init_67 : decode cX4_init 67 = .ok (.iconst 2, 1) := dk_5 (dk_at dksX4_init_2 22 rfl rfl)
theorem dX4_init_68 : decode cX4_init 68 = .ok (.newarray .int, 2) := dk_188_10 (dk_at dksX4_init_3 0 rfl rfl)
theorem dX4_init_70 : decode cX4_init 70 = .ok (.putfield 31, 3) := dk_181 0 31 (dk_at dksX4_init_3 2 rfl rfl)
theorem dX4_init_73 : decode cX4_init 73 = .ok (.aload_n 0, 1) := dk_42 (dk_at dksX4_init_3 5 rfl rfl)
theorem dX4_init_74 : decode cX4_init 74 = .ok (.iconst 2, 1) := dk_5 (dk_at dksX4_init_3 6 rfl rfl)
theorem dX4_init_75 : decode cX4_init 75 = .ok (.newarray .int, 2) := dk_188_10 (dk_at dksX4_init_3 7 rfl rfl)
theorem dX4_init_77 : decode cX4_init 77 = .ok (.putfield 34, 3) := dk_181 0 34 (dk_at dksX4_init_3 9 rfl rfl)
theorem dX4_init_80 : decode cX4_init 80 = .ok (.aload_n 0, 1) := dk_42 (dk_at dksX4_init_3 12 rfl rfl)
theorem dX4_init_81 : decode cX4_init 81 = .ok (.bipush 60, 2) := dk_16 60 (dk_at dksX4_init_3 13 rfl rfl)
theorem dX4_init_83 : decode cX4_init 83 = .ok (.newarray .int, 2) := dk_188_10 (dk_at dksX4_init_3 15 rfl rfl)
theorem dX4_init_85 : decode cX4_init 85 = .ok (.putfield 37, 3) := dk_181 0 37 (dk_at dksX4_init_3 17 rfl rfl)
theorem dX4_init_88 : decode cX4_init 88 = .ok (.aload_n 0, 1) := dk_42 (dk_at dksX4_init_3 20 rfl rfl)
theorem dX4_init_89 : decode cX4_init 89 = .ok (.bipush 41, 2) := dk_16 41 (dk_at dksX4_init_3 21 rfl rfl)
theorem dX4_init_91 : decode cX4_init 91 = .ok (.newarray .int, 2) := dk_188_10 (dk_at dksX4_init_4 0 rfl rfl)
theorem dX4_init_93 : decode cX4_init 93 = .ok (.putfield 40, 3) := dk_181 0 40 (dk_at dksX4_init_4 2 rfl rfl)
theorem dX4_init_96 : decode cX4_init 96 = .ok (.aload_n 0, 1) := dk_42 (dk_at dksX4_init_4 5 rfl rfl)
theorem dX4_init_97 : decode cX4_init 97 = .ok (.bipush 40, 2) := dk_16 40 (dk_at dksX4_init_4 6 rfl rfl)
theorem dX4_init_99 : decode cX4_init 99 = .ok (.newarray .int, 2) := dk_188_10 (dk_at dksX4_init_4 8 rfl rfl)
theorem dX4_init_101 : decode cX4_init 101 = .ok (.putfield 43, 3) := dk_181 0 43 (dk_at dksX4_init_4 10 rfl rfl)
theorem dX4_init_104 : decode cX4_init 104 = .ok (.aload_n 0, 1) := dk_42 (dk_at dksX4_init_4 13 rfl rfl)
theorem dX4_init_105 : decode cX4_init 105 = .ok (.sipush 420, 3) := dk_17 1 164 (dk_at dksX4_init_4 14 rfl rfl)
theorem dX4_init_108 : decode cX4_init 108 = .ok (.newarray .int, 2) := dk_188_10 (dk_at dksX4_init_4 17 rfl rfl)
theorem dX4_init_110 : decode cX4_init 110 = .ok (.putfield 46, 3) := dk_181 0 46 (dk_at dksX4_init_4 19 rfl rfl)
theorem dX4_init_113 : decode cX4_init 113 = .ok (.aload_n 0, 1) := dk_42 (dk_at dksX4_init_4 22 rfl rfl)
theorem dX4_init_114 : decode cX4_init 114 = .ok (.bipush 60, 2) := dk_16 60 (dk_at dksX4_init_5 0 rfl rfl)
theorem dX4_init_116 : decode cX4_init 116 = .ok (.newarray .int, 2) := dk_188_10 (dk_at dksX4_init_5 2 rfl rfl)
theorem dX4_init_118 : decode cX4_init 118 = .ok (.putfield 49, 3) := dk_181 0 49 (dk_at dksX4_init_5 4 rfl rfl)
theorem dX4_init_121 : decode cX4_init 121 = .ok (.aload_n 0, 1) := dk_42 (dk_at dksX4_init_5 7 rfl rfl)
theorem dX4_init_122 : decode cX4_init 122 = .ok (.sipush 420, 3) := dk_17 1 164 (dk_at dksX4_init_5 8 rfl rfl)
theorem dX4_init_125 : decode cX4_init 125 = .ok (.newarray .int, 2) := dk_188_10 (dk_at dksX4_init_5 11 rfl rfl)
theorem dX4_init_127 : decode cX4_init 127 = .ok (.putfield 52, 3) := dk_181 0 52 (dk_at dksX4_init_5 13 rfl rfl)
theorem dX4_init_130 : decode cX4_init 130 = .ok (.aload_n 0, 1) := dk_42 (dk_at dksX4_init_5 16 rfl rfl)
theorem dX4_init_131 : decode cX4_init 131 = .ok (.getfield 9, 3) := dk_180 0 9 (dk_at dksX4_init_5 17 rfl rfl)
theorem dX4_init_134 : decode cX4_init 134 = .ok (.iconst 1, 1) := dk_4 (dk_at dksX4_init_5 20 rfl rfl)
theorem dX4_init_135 : decode cX4_init 135 = .ok (.bipush 50, 2) := dk_16 50 (dk_at dksX4_init_5 21 rfl rfl)
theorem dX4_init_137 : decode cX4_init 137 = .ok (.iastore, 1) := dk_79 (dk_at dksX4_init_5 23 rfl rfl)
theorem dX4_init_138 : decode cX4_init 138 = .ok (.return_, 1) := dk_177 (dk_at dksX4_init_6 0 rfl rfl)
abbrev cX4_thrown : ByteArray := prog_17_method_2_code
def yX4_thrown : MethodName := ⟨RX4, "thrown", "()I"⟩
theorem dX4_thrown_0 : decode cX4_thrown 0 = .ok (.aload_n 0, 1) := by decide +kernel
theorem dX4_thrown_1 : decode cX4_thrown 1 = .ok (.getfield 55, 3) := by decide +kernel
theorem dX4_thrown_4 : decode cX4_thrown 4 = .ok (.ireturn, 1) := by decide +kernel
abbrev cX4_report : ByteArray := prog_17_method_30_code
def yX4_report : MethodName := ⟨RX4, "report", "(II)I"⟩
def dkwX4_report_2 : List UInt8 := [167, 0, 22, 28, 154, 0, 12, 42, 180, 0, 31, 27, 46, 167, 0, 9, 42, 180, 0, 34, 27, 46, 172]
abbrev dktX4_report_2 : List UInt8 := dkwX4_report_2 ++ []
def dkwX4_report_1 : List UInt8 := [184, 0, 59, 154, 0, 7, 5, 167, 0, 4, 3, 181, 0, 55, 42, 180, 0, 55, 158, 0, 7, 3]
abbrev dktX4_report_1 : List UInt8 := dkwX4_report_1 ++ dktX4_report_2
def dkwX4_report_0 : List UInt8 := [42, 42, 180, 0, 115, 153, 0, 12, 27, 3, 4, 184, 0, 59, 154, 0, 7, 4, 167, 0, 17, 28, 3, 4]
abbrev dktX4_report_0 : List UInt8 := dkwX4_report_0 ++ dktX4_report_1
theorem dksX4_report_0 : cX4_report.data.toList.drop 0 = dktX4_report_0 := by decide +kernel
theorem dksX4_report_1 : cX4_report.data.toList.drop 24 = dktX4_report_1 := dk_seg dksX4_report_0 24 rfl rfl
theorem dksX4_report_2 : cX4_report.data.toList.drop 46 = dktX4_report_2 := dk_seg dksX4_report_1 22 rfl rfl
theorem dX4_report_0 : decode cX4_report 0 = .ok (.aload_n 0, 1) := dk_42 (dk_at dksX4_report_0 0 rfl rfl)
theorem dX4_report_1 : decode cX4_report 1 = .ok (.aload_n 0, 1) := dk_42 (dk_at dksX4_report_0 1 rfl rfl)
theorem dX4_report_2 : decode cX4_report 2 = .ok (.getfield 115, 3) := dk_180 0 115 (dk_at dksX4_report_0 2 rfl rfl)
theorem dX4_report_5 : decode cX4_report 5 = .ok (.ifCond .eq 12, 3) := dk_153 0 12 (dk_at dksX4_report_0 5 rfl rfl)
theorem dX4_report_8 : decode cX4_report 8 = .ok (.iload_n 1, 1) := dk_27 (dk_at dksX4_report_0 8 rfl rfl)
theorem dX4_report_9 : decode cX4_report 9 = .ok (.iconst 0, 1) := dk_3 (dk_at dksX4_report_0 9 rfl rfl)
theorem dX4_report_10 : decode cX4_report 10 = .ok (.iconst 1, 1) := dk_4 (dk_at dksX4_report_0 10 rfl rfl)
theorem dX4_report_11 : decode cX4_report 11 = .ok (.invokestatic 59, 3) := dk_184 0 59 (dk_at dksX4_report_0 11 rfl rfl)
theorem dX4_report_14 : decode cX4_report 14 = .ok (.ifCond .ne 7, 3) := dk_154 0 7 (dk_at dksX4_report_0 14 rfl rfl)
theorem dX4_report_17 : decode cX4_report 17 = .ok (.iconst 1, 1) := dk_4 (dk_at dksX4_report_0 17 rfl rfl)
theorem dX4_report_18 : decode cX4_report 18 = .ok (.goto 17, 3) := dk_167 0 17 (dk_at dksX4_report_0 18 rfl rfl)
theorem dX4_report_21 : decode cX4_report 21 = .ok (.iload_n 2, 1) := dk_28 (dk_at dksX4_report_0 21 rfl rfl)
theorem dX4_report_22 : decode cX4_report 22 = .ok (.iconst 0, 1) := dk_3 (dk_at dksX4_report_0 22 rfl rfl)
theorem dX4_report_23 : decode cX4_report 23 = .ok (.iconst 1, 1) := dk_4 (dk_at dksX4_report_0 23 rfl rfl)
theorem dX4_report_24 : decode cX4_report 24 = .ok (.invokestatic 59, 3) := dk_184 0 59 (dk_at dksX4_report_1 0 rfl rfl)
theorem dX4_report_27 : decode cX4_report 27 = .ok (.ifCond .ne 7, 3) := dk_154 0 7 (dk_at dksX4_report_1 3 rfl rfl)
theorem dX4_report_30 : decode cX4_report 30 = .ok (.iconst 2, 1) := dk_5 (dk_at dksX4_report_1 6 rfl rfl)
theorem dX4_report_31 : decode cX4_report 31 = .ok (.goto 4, 3) := dk_167 0 4 (dk_at dksX4_report_1 7 rfl rfl)
theorem dX4_report_34 : decode cX4_report 34 = .ok (.iconst 0, 1) := dk_3 (dk_at dksX4_report_1 10 rfl rfl)
theorem dX4_report_35 : decode cX4_report 35 = .ok (.putfield 55, 3) := dk_181 0 55 (dk_at dksX4_report_1 11 rfl rfl)
theorem dX4_report_38 : decode cX4_report 38 = .ok (.aload_n 0, 1) := dk_42 (dk_at dksX4_report_1 14 rfl rfl)
theorem dX4_report_39 : decode cX4_report 39 = .ok (.getfield 55, 3) := dk_180 0 55 (dk_at dksX4_report_1 15 rfl rfl)
theorem dX4_report_42 : decode cX4_report 42 = .ok (.ifCond .le 7, 3) := dk_158 0 7 (dk_at dksX4_report_1 18 rfl rfl)
theorem dX4_report_45 : decode cX4_report 45 = .ok (.iconst 0, 1) := dk_3 (dk_at dksX4_report_1 21 rfl rfl)
theorem dX4_report_46 : decode cX4_report 46 = .ok (.goto 22, 3) := dk_167 0 22 (dk_at dksX4_report_2 0 rfl rfl)
theorem dX4_report_49 : decode cX4_report 49 = .ok (.iload_n 2, 1) := dk_28 (dk_at dksX4_report_2 3 rfl rfl)
theorem dX4_report_50 : decode cX4_report 50 = .ok (.ifCond .ne 12, 3) := dk_154 0 12 (dk_at dksX4_report_2 4 rfl rfl)
theorem dX4_report_53 : decode cX4_report 53 = .ok (.aload_n 0, 1) := dk_42 (dk_at dksX4_report_2 7 rfl rfl)
theorem dX4_report_54 : decode cX4_report 54 = .ok (.getfield 31, 3) := dk_180 0 31 (dk_at dksX4_report_2 8 rfl rfl)
theorem dX4_report_57 : decode cX4_report 57 = .ok (.iload_n 1, 1) := dk_27 (dk_at dksX4_report_2 11 rfl rfl)
theorem dX4_report_58 : decode cX4_report 58 = .ok (.iaload, 1) := dk_46 (dk_at dksX4_report_2 12 rfl rfl)
theorem dX4_report_59 : decode cX4_report 59 = .ok (.goto 9, 3) := dk_167 0 9 (dk_at dksX4_report_2 13 rfl rfl)
theorem dX4_report_62 : decode cX4_report 62 = .ok (.aload_n 0, 1) := dk_42 (dk_at dksX4_report_2 16 rfl rfl)
theorem dX4_report_63 : decode cX4_report 63 = .ok (.getfield 34, 3) := dk_180 0 34 (dk_at dksX4_report_2 17 rfl rfl)
theorem dX4_report_66 : decode cX4_report 66 = .ok (.iload_n 1, 1) := dk_27 (dk_at dksX4_report_2 20 rfl rfl)
theorem dX4_report_67 : decode cX4_report 67 = .ok (.iaload, 1) := dk_46 (dk_at dksX4_report_2 21 rfl rfl)
theorem dX4_report_68 : decode cX4_report 68 = .ok (.ireturn, 1) := dk_172 (dk_at dksX4_report_2 22 rfl rfl)
abbrev cX4_in : ByteArray := prog_17_method_3_code
def yX4_in : MethodName := ⟨RX4, "in", "(III)Z"⟩
def dkwX4_in_0 : List UInt8 := [26, 27, 161, 0, 12, 26, 28, 163, 0, 7, 4, 167, 0, 4, 3, 172]
abbrev dktX4_in_0 : List UInt8 := dkwX4_in_0 ++ []
theorem dksX4_in_0 : cX4_in.data.toList.drop 0 = dktX4_in_0 := by decide +kernel
theorem dX4_in_0 : decode cX4_in 0 = .ok (.iload_n 0, 1) := dk_26 (dk_at dksX4_in_0 0 rfl rfl)
theorem dX4_in_1 : decode cX4_in 1 = .ok (.iload_n 1, 1) := dk_27 (dk_at dksX4_in_0 1 rfl rfl)
theorem dX4_in_2 : decode cX4_in 2 = .ok (.if_icmp .lt 12, 3) := dk_161 0 12 (dk_at dksX4_in_0 2 rfl rfl)
theorem dX4_in_5 : decode cX4_in 5 = .ok (.iload_n 0, 1) := dk_26 (dk_at dksX4_in_0 5 rfl rfl)
theorem dX4_in_6 : decode cX4_in 6 = .ok (.iload_n 2, 1) := dk_28 (dk_at dksX4_in_0 6 rfl rfl)
theorem dX4_in_7 : decode cX4_in 7 = .ok (.if_icmp .gt 7, 3) := dk_163 0 7 (dk_at dksX4_in_0 7 rfl rfl)
theorem dX4_in_10 : decode cX4_in 10 = .ok (.iconst 1, 1) := dk_4 (dk_at dksX4_in_0 10 rfl rfl)
theorem dX4_in_11 : decode cX4_in 11 = .ok (.goto 4, 3) := dk_167 0 4 (dk_at dksX4_in_0 11 rfl rfl)
theorem dX4_in_14 : decode cX4_in 14 = .ok (.iconst 0, 1) := dk_3 (dk_at dksX4_in_0 14 rfl rfl)
theorem dX4_in_15 : decode cX4_in 15 = .ok (.ireturn, 1) := dk_172 (dk_at dksX4_in_0 15 rfl rfl)
abbrev cX4_feed : ByteArray := prog_17_method_31_code
def yX4_feed : MethodName := ⟨RX4, "feed", "(C)I"⟩
def dkwX4_feed_1 : List UInt8 := [42, 180, 0, 119, 27, 79, 42, 89, 180, 0, 119, 4, 96, 181, 0, 119, 42, 180, 0, 119, 172]
abbrev dktX4_feed_1 : List UInt8 := dkwX4_feed_1 ++ []
def dkwX4_feed_0 : List UInt8 := [42, 3, 181, 0, 55, 42, 180, 0, 119, 16, 60, 160, 0, 9, 42, 4, 182, 0, 122, 172, 42, 180, 0, 37]
abbrev dktX4_feed_0 : List UInt8 := dkwX4_feed_0 ++ dktX4_feed_1
theorem dksX4_feed_0 : cX4_feed.data.toList.drop 0 = dktX4_feed_0 := by decide +kernel
theorem dksX4_feed_1 : cX4_feed.data.toList.drop 24 = dktX4_feed_1 := dk_seg dksX4_feed_0 24 rfl rfl
theorem dX4_feed_0 : decode cX4_feed 0 = .ok (.aload_n 0, 1) := dk_42 (dk_at dksX4_feed_0 0 rfl rfl)
theorem dX4_feed_1 : decode cX4_feed 1 = .ok (.iconst 0, 1) := dk_3 (dk_at dksX4_feed_0 1 rfl rfl)
theorem dX4_feed_2 : decode cX4_feed 2 = .ok (.putfield 55, 3) := dk_181 0 55 (dk_at dksX4_feed_0 2 rfl rfl)
theorem dX4_feed_5 : decode cX4_feed 5 = .ok (.aload_n 0, 1) := dk_42 (dk_at dksX4_feed_0 5 rfl rfl)
theorem dX4_feed_6 : decode cX4_feed 6 = .ok (.getfield 119, 3) := dk_180 0 119 (dk_at dksX4_feed_0 6 rfl rfl)
theorem dX4_feed_9 : decode cX4_feed 9 = .ok (.bipush 60, 2) := dk_16 60 (dk_at dksX4_feed_0 9 rfl rfl)
theorem dX4_feed_11 : decode cX4_feed 11 = .ok (.if_icmp .ne 9, 3) := dk_160 0 9 (dk_at dksX4_feed_0 11 rfl rfl)
theorem dX4_feed_14 : decode cX4_feed 14 = .ok (.aload_n 0, 1) := dk_42 (dk_at dksX4_feed_0 14 rfl rfl)
theorem dX4_feed_15 : decode cX4_feed 15 = .ok (.iconst 1, 1) := dk_4 (dk_at dksX4_feed_0 15 rfl rfl)
theorem dX4_feed_16 : decode cX4_feed 16 = .ok (.invokevirtual 122, 3) := dk_182 0 122 (dk_at dksX4_feed_0 16 rfl rfl)
theorem dX4_feed_19 : decode cX4_feed 19 = .ok (.ireturn, 1) := dk_172 (dk_at dksX4_feed_0 19 rfl rfl)
theorem dX4_feed_20 : decode cX4_feed 20 = .ok (.aload_n 0, 1) := dk_42 (dk_at dksX4_feed_0 20 rfl rfl)
theorem dX4_feed_21 : decode cX4_feed 21 = .ok (.getfield 37, 3) := dk_180 0 37 (dk_at dksX4_feed_0 21 rfl rfl)
theorem dX4_feed_24 : decode cX4_feed 24 = .ok (.aload_n 0, 1) := dk_42 (dk_at dksX4_feed_1 0 rfl rfl)
theorem dX4_feed_25 : decode cX4_feed 25 = .ok (.getfield 119, 3) := dk_180 0 119 (dk_at dksX4_feed_1 1 rfl rfl)
theorem dX4_feed_28 : decode cX4_feed 28 = .ok (.iload_n 1, 1) := dk_27 (dk_at dksX4_feed_1 4 rfl rfl)
theorem dX4_feed_29 : decode cX4_feed 29 = .ok (.iastore, 1) := dk_79 (dk_at dksX4_feed_1 5 rfl rfl)
theorem dX4_feed_30 : decode cX4_feed 30 = .ok (.aload_n 0, 1) := dk_42 (dk_at dksX4_feed_1 6 rfl rfl)
theorem dX4_feed_31 : decode cX4_feed 31 = .ok (.dup, 1) := dk_89 (dk_at dksX4_feed_1 7 rfl rfl)
theorem dX4_feed_32 : decode cX4_feed 32 = .ok (.getfield 119, 3) := dk_180 0 119 (dk_at dksX4_feed_1 8 rfl rfl)
theorem dX4_feed_35 : decode cX4_feed 35 = .ok (.iconst 1, 1) := dk_4 (dk_at dksX4_feed_1 11 rfl rfl)
theorem dX4_feed_36 : decode cX4_feed 36 = .ok (.iadd, 1) := dk_96 (dk_at dksX4_feed_1 12 rfl rfl)
theorem dX4_feed_37 : decode cX4_feed 37 = .ok (.putfield 119, 3) := dk_181 0 119 (dk_at dksX4_feed_1 13 rfl rfl)
theorem dX4_feed_40 : decode cX4_feed 40 = .ok (.aload_n 0, 1) := dk_42 (dk_at dksX4_feed_1 16 rfl rfl)
theorem dX4_feed_41 : decode cX4_feed 41 = .ok (.getfield 119, 3) := dk_180 0 119 (dk_at dksX4_feed_1 17 rfl rfl)
theorem dX4_feed_44 : decode cX4_feed 44 = .ok (.ireturn, 1) := dk_172 (dk_at dksX4_feed_1 20 rfl rfl)
abbrev cX4_refuse : ByteArray := prog_17_method_4_code
def yX4_refuse : MethodName := ⟨RX4, "refuse", "(I)I"⟩
def dkwX4_refuse_0 : List UInt8 := [42, 27, 181, 0, 55, 3, 172]
abbrev dktX4_refuse_0 : List UInt8 := dkwX4_refuse_0 ++ []
theorem dksX4_refuse_0 : cX4_refuse.data.toList.drop 0 = dktX4_refuse_0 := by decide +kernel
theorem dX4_refuse_0 : decode cX4_refuse 0 = .ok (.aload_n 0, 1) := dk_42 (dk_at dksX4_refuse_0 0 rfl rfl)
theorem dX4_refuse_1 : decode cX4_refuse 1 = .ok (.iload_n 1, 1) := dk_27 (dk_at dksX4_refuse_0 1 rfl rfl)
theorem dX4_refuse_2 : decode cX4_refuse 2 = .ok (.putfield 55, 3) := dk_181 0 55 (dk_at dksX4_refuse_0 2 rfl rfl)
theorem dX4_refuse_5 : decode cX4_refuse 5 = .ok (.iconst 0, 1) := dk_3 (dk_at dksX4_refuse_0 5 rfl rfl)
theorem dX4_refuse_6 : decode cX4_refuse 6 = .ok (.ireturn, 1) := dk_172 (dk_at dksX4_refuse_0 6 rfl rfl)
abbrev cX4_add : ByteArray := prog_17_method_34_code
def yX4_add : MethodName := ⟨RX4, "add", "()I"⟩
def dkwX4_add_11 : List UInt8 := [3, 92, 46, 4, 96, 79, 21, 5, 172]
abbrev dktX4_add_11 : List UInt8 := dkwX4_add_11 ++ []
def dkwX4_add_10 : List UInt8 := [96, 2, 79, 132, 6, 1, 167, 255, 228, 42, 180, 0, 9, 16, 43, 29, 96, 21, 5, 79, 42, 180, 0, 9]
abbrev dktX4_add_10 : List UInt8 := dkwX4_add_10 ++ dktX4_add_11
def dkwX4_add_9 : List UInt8 := [54, 6, 21, 6, 16, 20, 162, 0, 27, 42, 180, 0, 9, 17, 6, 188, 16, 20, 21, 5, 104, 96, 21, 6]
abbrev dktX4_add_9 : List UInt8 := dkwX4_add_9 ++ dktX4_add_10
def dkwX4_add_8 : List UInt8 := [182, 0, 145, 42, 21, 5, 182, 0, 91, 153, 0, 13, 42, 21, 5, 29, 182, 0, 148, 167, 0, 37, 3]
abbrev dktX4_add_8 : List UInt8 := dkwX4_add_8 ++ dktX4_add_9
def dkwX4_add_7 : List UInt8 := [29, 96, 21, 4, 79, 42, 4, 29, 16, 11, 16, 12, 182, 0, 141, 87, 42, 6, 182, 0, 122, 172, 42]
abbrev dktX4_add_7 : List UInt8 := dkwX4_add_7 ++ dktX4_add_8
def dkwX4_add_6 : List UInt8 := [42, 29, 182, 0, 71, 42, 29, 182, 0, 138, 54, 5, 21, 5, 16, 12, 160, 0, 30, 42, 180, 0, 9, 5]
abbrev dktX4_add_6 : List UInt8 := dkwX4_add_6 ++ dktX4_add_7
def dkwX4_add_5 : List UInt8 := [16, 84, 16, 40, 29, 104, 96, 21, 5, 96, 42, 180, 0, 37, 21, 5, 46, 79, 132, 5, 1, 167, 255, 225]
abbrev dktX4_add_5 : List UInt8 := dkwX4_add_5 ++ dktX4_add_6
def dkwX4_add_4 : List UInt8 := [54, 4, 42, 180, 0, 9, 5, 29, 96, 27, 79, 3, 54, 5, 21, 5, 27, 162, 0, 31, 42, 180, 0, 9]
abbrev dktX4_add_4 : List UInt8 := dkwX4_add_4 ++ dktX4_add_5
def dkwX4_add_3 : List UInt8 := [160, 0, 9, 42, 5, 182, 0, 122, 172, 42, 180, 0, 9, 3, 46, 62, 42, 180, 0, 9, 5, 29, 96, 46]
abbrev dktX4_add_3 : List UInt8 := dkwX4_add_3 ++ dktX4_add_4
def dkwX4_add_2 : List UInt8 := [132, 3, 1, 167, 255, 232, 28, 154, 0, 9, 42, 4, 182, 0, 122, 172, 42, 180, 0, 9, 3, 46, 16, 40]
abbrev dktX4_add_2 : List UInt8 := dkwX4_add_2 ++ dktX4_add_3
def dkwX4_add_1 : List UInt8 := [62, 29, 27, 162, 0, 25, 28, 42, 180, 0, 37, 29, 46, 16, 32, 16, 126, 184, 0, 59, 126, 61]
abbrev dktX4_add_1 : List UInt8 := dkwX4_add_1 ++ dktX4_add_2
def dkwX4_add_0 : List UInt8 := [42, 3, 181, 0, 55, 42, 180, 0, 119, 60, 42, 3, 181, 0, 119, 27, 4, 16, 40, 184, 0, 59, 61, 3]
abbrev dktX4_add_0 : List UInt8 := dkwX4_add_0 ++ dktX4_add_1
theorem dksX4_add_0 : cX4_add.data.toList.drop 0 = dktX4_add_0 := by decide +kernel
theorem dksX4_add_1 : cX4_add.data.toList.drop 24 = dktX4_add_1 := dk_seg dksX4_add_0 24 rfl rfl
theorem dksX4_add_2 : cX4_add.data.toList.drop 46 = dktX4_add_2 := dk_seg dksX4_add_1 22 rfl rfl
theorem dksX4_add_3 : cX4_add.data.toList.drop 70 = dktX4_add_3 := dk_seg dksX4_add_2 24 rfl rfl
theorem dksX4_add_4 : cX4_add.data.toList.drop 94 = dktX4_add_4 := dk_seg dksX4_add_3 24 rfl rfl
theorem dksX4_add_5 : cX4_add.data.toList.drop 118 = dktX4_add_5 := dk_seg dksX4_add_4 24 rfl rfl
theorem dksX4_add_6 : cX4_add.data.toList.drop 142 = dktX4_add_6 := dk_seg dksX4_add_5 24 rfl rfl
theorem dksX4_add_7 : cX4_add.data.toList.drop 166 = dktX4_add_7 := dk_seg dksX4_add_6 24 rfl rfl
theorem dksX4_add_8 : cX4_add.data.toList.drop 189 = dktX4_add_8 := dk_seg dksX4_add_7 23 rfl rfl
theorem dksX4_add_9 : cX4_add.data.toList.drop 212 = dktX4_add_9 := dk_seg dksX4_add_8 23 rfl rfl
theorem dksX4_add_10 : cX4_add.data.toList.drop 236 = dktX4_add_10 := dk_seg dksX4_add_9 24 rfl rfl
theorem dksX4_add_11 : cX4_add.data.toList.drop 260 = dktX4_add_11 := dk_seg dksX4_add_10 24 rfl rfl
theorem dX4_add_0 : decode cX4_add 0 = .ok (.aload_n 0, 1) := dk_42 (dk_at dksX4_add_0 0 rfl rfl)
theorem dX4_add_1 : decode cX4_add 1 = .ok (.iconst 0, 1) := dk_3 (dk_at dksX4_add_0 1 rfl rfl)
theorem dX4_add_2 : decode cX4_add 2 = .ok (.putfield 55, 3) := dk_181 0 55 (dk_at dksX4_add_0 2 rfl rfl)
theorem dX4_add_5 : decode cX4_add 5 = .ok (.aload_n 0, 1) := dk_42 (dk_at dksX4_add_0 5 rfl rfl)
theorem dX4_add_6 : decode cX4_add 6 = .ok (.getfield 119, 3) := dk_180 0 119 (dk_at dksX4_add_0 6 rfl rfl)
theorem dX4_add_9 : decode cX4_add 9 = .ok (.istore_n 1, 1) := dk_60 (dk_at dksX4_add_0 9 rfl rfl)
theorem dX4_add_10 : decode cX4_add 10 = .ok (.aload_n 0, 1) := dk_42 (dk_at dksX4_add_0 10 rfl rfl)
theorem dX4_add_11 : decode cX4_add 11 = .ok (.iconst 0, 1) := dk_3 (dk_at dksX4_add_0 11 rfl rfl)
theorem dX4_add_12 : decode cX4_add 12 = .ok (.putfield 119, 3) := dk_181 0 119 (dk_at dksX4_add_0 12 rfl rfl)
theorem dX4_add_15 : decode cX4_add 15 = .ok (.iload_n 1, 1) := dk_27 (dk_at dksX4_add_0 15 rfl rfl)
theorem dX4_add_16 : decode cX4_add 16 = .ok (.iconst 1, 1) := dk_4 (dk_at dksX4_add_0 16 rfl rfl)
theorem dX4_add_17 : decode cX4_add 17 = .ok (.bipush 40, 2) := dk_16 40 (dk_at dksX4_add_0 17 rfl rfl)
theorem dX4_add_19 : decode cX4_add 19 = .ok (.invokestatic 59, 3) := dk_184 0 59 (dk_at dksX4_add_0 19 rfl rfl)
theorem dX4_add_22 : decode cX4_add 22 = .ok (.istore_n 2, 1) := dk_61 (dk_at dksX4_add_0 22 rfl rfl)
theorem dX4_add_23 : decode cX4_add 23 = .ok (.iconst 0, 1) := dk_3 (dk_at dksX4_add_0 23 rfl rfl)
theorem dX4_add_24 : decode cX4_add 24 = .ok (.istore_n 3, 1) := dk_62 (dk_at dksX4_add_1 0 rfl rfl)
theorem dX4_add_25 : decode cX4_add 25 = .ok (.iload_n 3, 1) := dk_29 (dk_at dksX4_add_1 1 rfl rfl)
theorem dX4_add_26 : decode cX4_add 26 = .ok (.iload_n 1, 1) := dk_27 (dk_at dksX4_add_1 2 rfl rfl)
theorem dX4_add_27 : decode cX4_add 27 = .ok (.if_icmp .ge 25, 3) := dk_162 0 25 (dk_at dksX4_add_1 3 rfl rfl)
theorem dX4_add_30 : decode cX4_add 30 = .ok (.iload_n 2, 1) := dk_28 (dk_at dksX4_add_1 6 rfl rfl)
theorem dX4_add_31 : decode cX4_add 31 = .ok (.aload_n 0, 1) := dk_42 (dk_at dksX4_add_1 7 rfl rfl)
theorem dX4_add_32 : decode cX4_add 32 = .ok (.getfield 37, 3) := dk_180 0 37 (dk_at dksX4_add_1 8 rfl rfl)
theorem dX4_add_35 : decode cX4_add 35 = .ok (.iload_n 3, 1) := dk_29 (dk_at dksX4_add_1 11 rfl rfl)
theorem dX4_add_36 : decode cX4_add 36 = .ok (.iaload, 1) := dk_46 (dk_at dksX4_add_1 12 rfl rfl)
theorem dX4_add_37 : decode cX4_add 37 = .ok (.bipush 32, 2) := dk_16 32 (dk_at dksX4_add_1 13 rfl rfl)
theorem dX4_add_39 : decode cX4_add 39 = .ok (.bipush 126, 2) := dk_16 126 (dk_at dksX4_add_1 15 rfl rfl)
theorem dX4_add_41 : decode cX4_add 41 = .ok (.invokestatic 59, 3) := dk_184 0 59 (dk_at dksX4_add_1 17 rfl rfl)
theorem dX4_add_44 : decode cX4_add 44 = .ok (.iand, 1) := dk_126 (dk_at dksX4_add_1 20 rfl rfl)
theorem dX4_add_45 : decode cX4_add 45 = .ok (.istore_n 2, 1) := dk_61 (dk_at dksX4_add_1 21 rfl rfl)
theorem dX4_add_46 : decode cX4_add 46 = .ok (.iinc 3 1, 3) := dk_132 3 1 (dk_at dksX4_add_2 0 rfl rfl)
theorem dX4_add_49 : decode cX4_add 49 = .ok (.goto (-24), 3) := dk_167 255 232 (dk_at dksX4_add_2 3 rfl rfl)
theorem dX4_add_52 : decode cX4_add 52 = .ok (.iload_n 2, 1) := dk_28 (dk_at dksX4_add_2 6 rfl rfl)
theorem dX4_add_53 : decode cX4_add 53 = .ok (.ifCond .ne 9, 3) := dk_154 0 9 (dk_at dksX4_add_2 7 rfl rfl)
theorem dX4_add_56 : decode cX4_add 56 = .ok (.aload_n 0, 1) := dk_42 (dk_at dksX4_add_2 10 rfl rfl)
theorem dX4_add_57 : decode cX4_add 57 = .ok (.iconst 1, 1) := dk_4 (dk_at dksX4_add_2 11 rfl rfl)
theorem dX4_add_58 : decode cX4_add 58 = .ok (.invokevirtual 122, 3) := dk_182 0 122 (dk_at dksX4_add_2 12 rfl rfl)
theorem dX4_add_61 : decode cX4_add 61 = .ok (.ireturn, 1) := dk_172 (dk_at dksX4_add_2 15 rfl rfl)
theorem dX4_add_62 : decode cX4_add 62 = .ok (.aload_n 0, 1) := dk_42 (dk_at dksX4_add_2 16 rfl rfl)
theorem dX4_add_63 : decode cX4_add 63 = .ok (.getfield 9, 3) := dk_180 0 9 (dk_at dksX4_add_2 17 rfl rfl)
theorem dX4_add_66 : decode cX4_add 66 = .ok (.iconst 0, 1) := dk_3 (dk_at dksX4_add_2 20 rfl rfl)
theorem dX4_add_67 : decode cX4_add 67 = .ok (.iaload, 1) := dk_46 (dk_at dksX4_add_2 21 rfl rfl)
theorem dX4_add_68 : decode cX4_add 68 = .ok (.bipush 40, 2) := dk_16 40 (dk_at dksX4_add_2 22 rfl rfl)
theorem dX4_add_70 : decode cX4_add 70 = .ok (.if_icmp .ne 9, 3) := dk_160 0 9 (dk_at dksX4_add_3 0 rfl rfl)
theorem dX4_add_73 : decode cX4_add 73 = .ok (.aload_n 0, 1) := dk_42 (dk_at dksX4_add_3 3 rfl rfl)
theorem dX4_add_74 : decode cX4_add 74 = .ok (.iconst 2, 1) := dk_5 (dk_at dksX4_add_3 4 rfl rfl)
theorem dX4_add_75 : decode cX4_add 75 = .ok (.invokevirtual 122, 3) := dk_182 0 122 (dk_at dksX4_add_3 5 rfl rfl)
theorem dX4_add_78 : decode cX4_add 78 = .ok (.ireturn, 1) := dk_172 (dk_at dksX4_add_3 8 rfl rfl)
theorem dX4_add_79 : decode cX4_add 79 = .ok (.aload_n 0, 1) := dk_42 (dk_at dksX4_add_3 9 rfl rfl)
theorem dX4_add_80 : decode cX4_add 80 = .ok (.getfield 9, 3) := dk_180 0 9 (dk_at dksX4_add_3 10 rfl rfl)
theorem dX4_add_83 : decode cX4_add 83 = .ok (.iconst 0, 1) := dk_3 (dk_at dksX4_add_3 13 rfl rfl)
theorem dX4_add_84 : decode cX4_add 84 = .ok (.iaload, 1) := dk_46 (dk_at dksX4_add_3 14 rfl rfl)
theorem dX4_add_85 : decode cX4_add 85 = .ok (.istore_n 3, 1) := dk_62 (dk_at dksX4_add_3 15 rfl rfl)
theorem dX4_add_86 : decode cX4_add 86 = .ok (.aload_n 0, 1) := dk_42 (dk_at dksX4_add_3 16 rfl rfl)
theorem dX4_add_87 : decode cX4_add 87 = .ok (.getfield 9, 3) := dk_180 0 9 (dk_at dksX4_add_3 17 rfl rfl)
theorem dX4_add_90 : decode cX4_add 90 = .ok (.iconst 2, 1) := dk_5 (dk_at dksX4_add_3 20 rfl rfl)
theorem dX4_add_91 : decode cX4_add 91 = .ok (.iload_n 3, 1) := dk_29 (dk_at dksX4_add_3 21 rfl rfl)
theorem dX4_add_92 : decode cX4_add 92 = .ok (.iadd, 1) := dk_96 (dk_at dksX4_add_3 22 rfl rfl)
theorem dX4_add_93 : decode cX4_add 93 = .ok (.iaload, 1) := dk_46 (dk_at dksX4_add_3 23 rfl rfl)
theorem dX4_add_94 : decode cX4_add 94 = .ok (.istore 4, 2) := dk_54 4 (dk_at dksX4_add_4 0 rfl rfl)
theorem dX4_add_96 : decode cX4_add 96 = .ok (.aload_n 0, 1) := dk_42 (dk_at dksX4_add_4 2 rfl rfl)
theorem dX4_add_97 : decode cX4_add 97 = .ok (.getfield 9, 3) := dk_180 0 9 (dk_at dksX4_add_4 3 rfl rfl)
theorem dX4_add_100 : decode cX4_add 100 = .ok (.iconst 2, 1) := dk_5 (dk_at dksX4_add_4 6 rfl rfl)
theorem dX4_add_101 : decode cX4_add 101 = .ok (.iload_n 3, 1) := dk_29 (dk_at dksX4_add_4 7 rfl rfl)
theorem dX4_add_102 : decode cX4_add 102 = .ok (.iadd, 1) := dk_96 (dk_at dksX4_add_4 8 rfl rfl)
theorem dX4_add_103 : decode cX4_add 103 = .ok (.iload_n 1, 1) := dk_27 (dk_at dksX4_add_4 9 rfl rfl)
theorem dX4_add_104 : decode cX4_add 104 = .ok (.iastore, 1) := dk_79 (dk_at dksX4_add_4 10 rfl rfl)
theorem dX4_add_105 : decode cX4_add 105 = .ok (.iconst 0, 1) := dk_3 (dk_at dksX4_add_4 11 rfl rfl)
theorem dX4_add_106 : decode cX4_add 106 = .ok (.istore 5, 2) := dk_54 5 (dk_at dksX4_add_4 12 rfl rfl)
theorem dX4_add_108 : decode cX4_add 108 = .ok (.iload 5, 2) := dk_21 5 (dk_at dksX4_add_4 14 rfl rfl)
theorem dX4_add_110 : decode cX4_add 110 = .ok (.iload_n 1, 1) := dk_27 (dk_at dksX4_add_4 16 rfl rfl)
theorem dX4_add_111 : decode cX4_add 111 = .ok (.if_icmp .ge 31, 3) := dk_162 0 31 (dk_at dksX4_add_4 17 rfl rfl)
theorem dX4_add_114 : decode cX4_add 114 = .ok (.aload_n 0, 1) := dk_42 (dk_at dksX4_add_4 20 rfl rfl)
theorem dX4_add_115 : decode cX4_add 115 = .ok (.getfield 9, 3) := dk_180 0 9 (dk_at dksX4_add_4 21 rfl rfl)
theorem dX4_add_118 : decode cX4_add 118 = .ok (.bipush 84, 2) := dk_16 84 (dk_at dksX4_add_5 0 rfl rfl)
theorem dX4_add_120 : decode cX4_add 120 = .ok (.bipush 40, 2) := dk_16 40 (dk_at dksX4_add_5 2 rfl rfl)
theorem dX4_add_122 : decode cX4_add 122 = .ok (.iload_n 3, 1) := dk_29 (dk_at dksX4_add_5 4 rfl rfl)
theorem dX4_add_123 : decode cX4_add 123 = .ok (.imul, 1) := dk_104 (dk_at dksX4_add_5 5 rfl rfl)
theorem dX4_add_124 : decode cX4_add 124 = .ok (.iadd, 1) := dk_96 (dk_at dksX4_add_5 6 rfl rfl)
theorem dX4_add_125 : decode cX4_add 125 = .ok (.iload 5, 2) := dk_21 5 (dk_at dksX4_add_5 7 rfl rfl)
theorem dX4_add_127 : decode cX4_add 127 = .ok (.iadd, 1) := dk_96 (dk_at dksX4_add_5 9 rfl rfl)
theorem dX4_add_128 : decode cX4_add 128 = .ok (.aload_n 0, 1) := dk_42 (dk_at dksX4_add_5 10 rfl rfl)
theorem dX4_add_129 : decode cX4_add 129 = .ok (.getfield 37, 3) := dk_180 0 37 (dk_at dksX4_add_5 11 rfl rfl)
theorem dX4_add_132 : decode cX4_add 132 = .ok (.iload 5, 2) := dk_21 5 (dk_at dksX4_add_5 14 rfl rfl)
theorem dX4_add_134 : decode cX4_add 134 = .ok (.iaload, 1) := dk_46 (dk_at dksX4_add_5 16 rfl rfl)
theorem dX4_add_135 : decode cX4_add 135 = .ok (.iastore, 1) := dk_79 (dk_at dksX4_add_5 17 rfl rfl)
theorem dX4_add_136 : decode cX4_add 136 = .ok (.iinc 5 1, 3) := dk_132 5 1 (dk_at dksX4_add_5 18 rfl rfl)
theorem dX4_add_139 : decode cX4_add 139 = .ok (.goto (-31), 3) := dk_167 255 225 (dk_at dksX4_add_5 21 rfl rfl)
theorem dX4_add_142 : decode cX4_add 142 = .ok (.aload_n 0, 1) := dk_42 (dk_at dksX4_add_6 0 rfl rfl)
theorem dX4_add_143 : decode cX4_add 143 = .ok (.iload_n 3, 1) := dk_29 (dk_at dksX4_add_6 1 rfl rfl)
theorem dX4_add_144 : decode cX4_add 144 = .ok (.invokevirtual 71, 3) := dk_182 0 71 (dk_at dksX4_add_6 2 rfl rfl)
theorem dX4_add_147 : decode cX4_add 147 = .ok (.aload_n 0, 1) := dk_42 (dk_at dksX4_add_6 5 rfl rfl)
theorem dX4_add_148 : decode cX4_add 148 = .ok (.iload_n 3, 1) := dk_29 (dk_at dksX4_add_6 6 rfl rfl)
theorem dX4_add_149 : decode cX4_add 149 = .ok (.invokevirtual 138, 3) := dk_182 0 138 (dk_at dksX4_add_6 7 rfl rfl)
theorem dX4_add_152 : decode cX4_add 152 = .ok (.istore 5, 2) := dk_54 5 (dk_at dksX4_add_6 10 rfl rfl)
theorem dX4_add_154 : decode cX4_add 154 = .ok (.iload 5, 2) := dk_21 5 (dk_at dksX4_add_6 12 rfl rfl)
theorem dX4_add_156 : decode cX4_add 156 = .ok (.bipush 12, 2) := dk_16 12 (dk_at dksX4_add_6 14 rfl rfl)
theorem dX4_add_158 : decode cX4_add 158 = .ok (.if_icmp .ne 30, 3) := dk_160 0 30 (dk_at dksX4_add_6 16 rfl rfl)
theorem dX4_add_161 : decode cX4_add 161 = .ok (.aload_n 0, 1) := dk_42 (dk_at dksX4_add_6 19 rfl rfl)
theorem dX4_add_162 : decode cX4_add 162 = .ok (.getfield 9, 3) := dk_180 0 9 (dk_at dksX4_add_6 20 rfl rfl)
theorem dX4_add_165 : decode cX4_add 165 = .ok (.iconst 2, 1) := dk_5 (dk_at dksX4_add_6 23 rfl rfl)
theorem dX4_add_166 : decode cX4_add 166 = .ok (.iload_n 3, 1) := dk_29 (dk_at dksX4_add_7 0 rfl rfl)
theorem dX4_add_167 : decode cX4_add 167 = .ok (.iadd, 1) := dk_96 (dk_at dksX4_add_7 1 rfl rfl)
theorem dX4_add_168 : decode cX4_add 168 = .ok (.iload 4, 2) := dk_21 4 (dk_at dksX4_add_7 2 rfl rfl)
theorem dX4_add_170 : decode cX4_add 170 = .ok (.iastore, 1) := dk_79 (dk_at dksX4_add_7 4 rfl rfl)
theorem dX4_add_171 : decode cX4_add 171 = .ok (.aload_n 0, 1) := dk_42 (dk_at dksX4_add_7 5 rfl rfl)
theorem dX4_add_172 : decode cX4_add 172 = .ok (.iconst 1, 1) := dk_4 (dk_at dksX4_add_7 6 rfl rfl)
theorem dX4_add_173 : decode cX4_add 173 = .ok (.iload_n 3, 1) := dk_29 (dk_at dksX4_add_7 7 rfl rfl)
theorem dX4_add_174 : decode cX4_add 174 = .ok (.bipush 11, 2) := dk_16 11 (dk_at dksX4_add_7 8 rfl rfl)
theorem dX4_add_176 : decode cX4_add 176 = .ok (.bipush 12, 2) := dk_16 12 (dk_at dksX4_add_7 10 rfl rfl)
theorem dX4_add_178 : decode cX4_add 178 = .ok (.invokevirtual 141, 3) := dk_182 0 141 (dk_at dksX4_add_7 12 rfl rfl)
theorem dX4_add_181 : decode cX4_add 181 = .ok (.pop, 1) := dk_87 (dk_at dksX4_add_7 15 rfl rfl)
theorem dX4_add_182 : decode cX4_add 182 = .ok (.aload_n 0, 1) := dk_42 (dk_at dksX4_add_7 16 rfl rfl)
theorem dX4_add_183 : decode cX4_add 183 = .ok (.iconst 3, 1) := dk_6 (dk_at dksX4_add_7 17 rfl rfl)
theorem dX4_add_184 : decode cX4_add 184 = .ok (.invokevirtual 122, 3) := dk_182 0 122 (dk_at dksX4_add_7 18 rfl rfl)
theorem dX4_add_187 : decode cX4_add 187 = .ok (.ireturn, 1) := dk_172 (dk_at dksX4_add_7 21 rfl rfl)
theorem dX4_add_188 : decode cX4_add 188 = .ok (.aload_n 0, 1) := dk_42 (dk_at dksX4_add_7 22 rfl rfl)
theorem dX4_add_189 : decode cX4_add 189 = .ok (.invokevirtual 145, 3) := dk_182 0 145 (dk_at dksX4_add_8 0 rfl rfl)
theorem dX4_add_192 : decode cX4_add 192 = .ok (.aload_n 0, 1) := dk_42 (dk_at dksX4_add_8 3 rfl rfl)
theorem dX4_add_193 : decode cX4_add 193 = .ok (.iload 5, 2) := dk_21 5 (dk_at dksX4_add_8 4 rfl rfl)
theorem dX4_add_195 : decode cX4_add 195 = .ok (.invokevirtual 91, 3) := dk_182 0 91 (dk_at dksX4_add_8 6 rfl rfl)
theorem dX4_add_198 : decode cX4_add 198 = .ok (.ifCond .eq 13, 3) := dk_153 0 13 (dk_at dksX4_add_8 9 rfl rfl)
theorem dX4_add_201 : decode cX4_add 201 = .ok (.aload_n 0, 1) := dk_42 (dk_at dksX4_add_8 12 rfl rfl)
theorem dX4_add_202 : decode cX4_add 202 = .ok (.iload 5, 2) := dk_21 5 (dk_at dksX4_add_8 13 rfl rfl)
theorem dX4_add_204 : decode cX4_add 204 = .ok (.iload_n 3, 1) := dk_29 (dk_at dksX4_add_8 15 rfl rfl)
theorem dX4_add_205 : decode cX4_add 205 = .ok (.invokevirtual 148, 3) := dk_182 0 148 (dk_at dksX4_add_8 16 rfl rfl)
theorem dX4_add_208 : decode cX4_add 208 = .ok (.goto 37, 3) := dk_167 0 37 (dk_at dksX4_add_8 19 rfl rfl)
theorem dX4_add_211 : decode cX4_add 211 = .ok (.iconst 0, 1) := dk_3 (dk_at dksX4_add_8 22 rfl rfl)
theorem dX4_add_212 : decode cX4_add 212 = .ok (.istore 6, 2) := dk_54 6 (dk_at dksX4_add_9 0 rfl rfl)
theorem dX4_add_214 : decode cX4_add 214 = .ok (.iload 6, 2) := dk_21 6 (dk_at dksX4_add_9 2 rfl rfl)
theorem dX4_add_216 : decode cX4_add 216 = .ok (.bipush 20, 2) := dk_16 20 (dk_at dksX4_add_9 4 rfl rfl)
theorem dX4_add_218 : decode cX4_add 218 = .ok (.if_icmp .ge 27, 3) := dk_162 0 27 (dk_at dksX4_add_9 6 rfl rfl)
theorem dX4_add_221 : decode cX4_add 221 = .ok (.aload_n 0, 1) := dk_42 (dk_at dksX4_add_9 9 rfl rfl)
theorem dX4_add_222 : decode cX4_add 222 = .ok (.getfield 9, 3) := dk_180 0 9 (dk_at dksX4_add_9 10 rfl rfl)
theorem dX4_add_225 : decode cX4_add 225 = .ok (.sipush 1724, 3) := dk_17 6 188 (dk_at dksX4_add_9 13 rfl rfl)
theorem dX4_add_228 : decode cX4_add 228 = .ok (.bipush 20, 2) := dk_16 20 (dk_at dksX4_add_9 16 rfl rfl)
theorem dX4_add_230 : decode cX4_add 230 = .ok (.iload 5, 2) := dk_21 5 (dk_at dksX4_add_9 18 rfl rfl)
theorem dX4_add_232 : decode cX4_add 232 = .ok (.imul, 1) := dk_104 (dk_at dksX4_add_9 20 rfl rfl)
theorem dX4_add_233 : decode cX4_add 233 = .ok (.iadd, 1) := dk_96 (dk_at dksX4_add_9 21 rfl rfl)
theorem dX4_add_234 : decode cX4_add 234 = .ok (.iload 6, 2) := dk_21 6 (dk_at dksX4_add_9 22 rfl rfl)
theorem dX4_add_236 : decode cX4_add 236 = .ok (.iadd, 1) := dk_96 (dk_at dksX4_add_10 0 rfl rfl)
theorem dX4_add_237 : decode cX4_add 237 = .ok (.iconst (-1), 1) := dk_2 (dk_at dksX4_add_10 1 rfl rfl)
theorem dX4_add_238 : decode cX4_add 238 = .ok (.iastore, 1) := dk_79 (dk_at dksX4_add_10 2 rfl rfl)
theorem dX4_add_239 : decode cX4_add 239 = .ok (.iinc 6 1, 3) := dk_132 6 1 (dk_at dksX4_add_10 3 rfl rfl)
theorem dX4_add_242 : decode cX4_add 242 = .ok (.goto (-28), 3) := dk_167 255 228 (dk_at dksX4_add_10 6 rfl rfl)
theorem dX4_add_245 : decode cX4_add 245 = .ok (.aload_n 0, 1) := dk_42 (dk_at dksX4_add_10 9 rfl rfl)
theorem dX4_add_246 : decode cX4_add 246 = .ok (.getfield 9, 3) := dk_180 0 9 (dk_at dksX4_add_10 10 rfl rfl)
theorem dX4_add_249 : decode cX4_add 249 = .ok (.bipush 43, 2) := dk_16 43 (dk_at dksX4_add_10 13 rfl rfl)
theorem dX4_add_251 : decode cX4_add 251 = .ok (.iload_n 3, 1) := dk_29 (dk_at dksX4_add_10 15 rfl rfl)
theorem dX4_add_252 : decode cX4_add 252 = .ok (.iadd, 1) := dk_96 (dk_at dksX4_add_10 16 rfl rfl)
theorem dX4_add_253 : decode cX4_add 253 = .ok (.iload 5, 2) := dk_21 5 (dk_at dksX4_add_10 17 rfl rfl)
theorem dX4_add_255 : decode cX4_add 255 = .ok (.iastore, 1) := dk_79 (dk_at dksX4_add_10 19 rfl rfl)
theorem dX4_add_256 : decode cX4_add 256 = .ok (.aload_n 0, 1) := dk_42 (dk_at dksX4_add_10 20 rfl rfl)
theorem dX4_add_257 : decode cX4_add 257 = .ok (.getfield 9, 3) := dk_180 0 9 (dk_at dksX4_add_10 21 rfl rfl)
theorem dX4_add_260 : decode cX4_add 260 = .ok (.iconst 0, 1) := dk_3 (dk_at dksX4_add_11 0 rfl rfl)
theorem dX4_add_261 : decode cX4_add 261 = .ok (.dup2, 1) := dk_92 (dk_at dksX4_add_11 1 rfl rfl)
theorem dX4_add_262 : decode cX4_add 262 = .ok (.iaload, 1) := dk_46 (dk_at dksX4_add_11 2 rfl rfl)
theorem dX4_add_263 : decode cX4_add 263 = .ok (.iconst 1, 1) := dk_4 (dk_at dksX4_add_11 3 rfl rfl)
theorem dX4_add_264 : decode cX4_add 264 = .ok (.iadd, 1) := dk_96 (dk_at dksX4_add_11 4 rfl rfl)
theorem dX4_add_265 : decode cX4_add 265 = .ok (.iastore, 1) := dk_79 (dk_at dksX4_add_11 5 rfl rfl)
theorem dX4_add_266 : decode cX4_add 266 = .ok (.iload 5, 2) := dk_21 5 (dk_at dksX4_add_11 6 rfl rfl)
theorem dX4_add_268 : decode cX4_add 268 = .ok (.ireturn, 1) := dk_172 (dk_at dksX4_add_11 8 rfl rfl)
abbrev cX4_layTokens : ByteArray := prog_17_method_8_code
def yX4_layTokens : MethodName := ⟨RX4, "layTokens", "(I)V"⟩
def dkwX4_layTokens_4 : List UInt8 := [96, 79, 167, 0, 6, 132, 2, 1, 167, 255, 164, 177]
abbrev dktX4_layTokens_4 : List UInt8 := dkwX4_layTokens_4 ++ []
def dkwX4_layTokens_3 : List UInt8 := [180, 0, 28, 16, 20, 27, 104, 42, 180, 0, 22, 27, 46, 96, 28, 79, 42, 180, 0, 22, 27, 92, 46, 4]
abbrev dktX4_layTokens_3 : List UInt8 := dkwX4_layTokens_3 ++ dktX4_layTokens_4
def dkwX4_layTokens_2 : List UInt8 := [29, 164, 0, 50, 42, 180, 0, 25, 16, 20, 27, 104, 42, 180, 0, 22, 27, 46, 96, 29, 79, 42]
abbrev dktX4_layTokens_2 : List UInt8 := dkwX4_layTokens_2 ++ dktX4_layTokens_3
def dkwX4_layTokens_1 : List UInt8 := [182, 0, 63, 162, 0, 20, 42, 27, 28, 182, 0, 67, 16, 32, 159, 0, 9, 132, 2, 1, 167, 255, 233, 28]
abbrev dktX4_layTokens_1 : List UInt8 := dkwX4_layTokens_1 ++ dktX4_layTokens_2
def dkwX4_layTokens_0 : List UInt8 := [42, 180, 0, 22, 27, 3, 79, 3, 61, 28, 42, 27, 182, 0, 63, 162, 0, 89, 28, 62, 28, 42, 27]
abbrev dktX4_layTokens_0 : List UInt8 := dkwX4_layTokens_0 ++ dktX4_layTokens_1
theorem dksX4_layTokens_0 : cX4_layTokens.data.toList.drop 0 = dktX4_layTokens_0 := by decide +kernel
theorem dksX4_layTokens_1 : cX4_layTokens.data.toList.drop 23 = dktX4_layTokens_1 := dk_seg dksX4_layTokens_0 23 rfl rfl
theorem dksX4_layTokens_2 : cX4_layTokens.data.toList.drop 47 = dktX4_layTokens_2 := dk_seg dksX4_layTokens_1 24 rfl rfl
theorem dksX4_layTokens_3 : cX4_layTokens.data.toList.drop 69 = dktX4_layTokens_3 := dk_seg dksX4_layTokens_2 22 rfl rfl
theorem dksX4_layTokens_4 : cX4_layTokens.data.toList.drop 93 = dktX4_layTokens_4 := dk_seg dksX4_layTokens_3 24 rfl rfl
theorem dX4_layTokens_0 : decode cX4_layTokens 0 = .ok (.aload_n 0, 1) := dk_42 (dk_at dksX4_layTokens_0 0 rfl rfl)
theorem dX4_layTokens_1 : decode cX4_layTokens 1 = .ok (.getfield 22, 3) := dk_180 0 22 (dk_at dksX4_layTokens_0 1 rfl rfl)
theorem dX4_layTokens_4 : decode cX4_layTokens 4 = .ok (.iload_n 1, 1) := dk_27 (dk_at dksX4_layTokens_0 4 rfl rfl)
theorem dX4_layTokens_5 : decode cX4_layTokens 5 = .ok (.iconst 0, 1) := dk_3 (dk_at dksX4_layTokens_0 5 rfl rfl)
theorem dX4_layTokens_6 : decode cX4_layTokens 6 = .ok (.iastore, 1) := dk_79 (dk_at dksX4_layTokens_0 6 rfl rfl)
theorem dX4_layTokens_7 : decode cX4_layTokens 7 = .ok (.iconst 0, 1) := dk_3 (dk_at dksX4_layTokens_0 7 rfl rfl)
theorem dX4_layTokens_8 : decode cX4_layTokens 8 = .ok (.istore_n 2, 1) := dk_61 (dk_at dksX4_layTokens_0 8 rfl rfl)
theorem dX4_layTokens_9 : decode cX4_layTokens 9 = .ok (.iload_n 2, 1) := dk_28 (dk_at dksX4_layTokens_0 9 rfl rfl)
theorem dX4_layTokens_10 : decode cX4_layTokens 10 = .ok (.aload_n 0, 1) := dk_42 (dk_at dksX4_layTokens_0 10 rfl rfl)
theorem dX4_layTokens_11 : decode cX4_layTokens 11 = .ok (.iload_n 1, 1) := dk_27 (dk_at dksX4_layTokens_0 11 rfl rfl)
theorem dX4_layTokens_12 : decode cX4_layTokens 12 = .ok (.invokevirtual 63, 3) := dk_182 0 63 (dk_at dksX4_layTokens_0 12 rfl rfl)
theorem dX4_layTokens_15 : decode cX4_layTokens 15 = .ok (.if_icmp .ge 89, 3) := dk_162 0 89 (dk_at dksX4_layTokens_0 15 rfl rfl)
theorem dX4_layTokens_18 : decode cX4_layTokens 18 = .ok (.iload_n 2, 1) := dk_28 (dk_at dksX4_layTokens_0 18 rfl rfl)
theorem dX4_layTokens_19 : decode cX4_layTokens 19 = .ok (.istore_n 3, 1) := dk_62 (dk_at dksX4_layTokens_0 19 rfl rfl)
theorem dX4_layTokens_20 : decode cX4_layTokens 20 = .ok (.iload_n 2, 1) := dk_28 (dk_at dksX4_layTokens_0 20 rfl rfl)
theorem dX4_layTokens_21 : decode cX4_layTokens 21 = .ok (.aload_n 0, 1) := dk_42 (dk_at dksX4_layTokens_0 21 rfl rfl)
theorem dX4_layTokens_22 : decode cX4_layTokens 22 = .ok (.iload_n 1, 1) := dk_27 (dk_at dksX4_layTokens_0 22 rfl rfl)
theorem dX4_layTokens_23 : decode cX4_layTokens 23 = .ok (.invokevirtual 63, 3) := dk_182 0 63 (dk_at dksX4_layTokens_1 0 rfl rfl)
theorem dX4_layTokens_26 : decode cX4_layTokens 26 = .ok (.if_icmp .ge 20, 3) := dk_162 0 20 (dk_at dksX4_layTokens_1 3 rfl rfl)
theorem dX4_layTokens_29 : decode cX4_layTokens 29 = .ok (.aload_n 0, 1) := dk_42 (dk_at dksX4_layTokens_1 6 rfl rfl)
theorem dX4_layTokens_30 : decode cX4_layTokens 30 = .ok (.iload_n 1, 1) := dk_27 (dk_at dksX4_layTokens_1 7 rfl rfl)
theorem dX4_layTokens_31 : decode cX4_layTokens 31 = .ok (.iload_n 2, 1) := dk_28 (dk_at dksX4_layTokens_1 8 rfl rfl)
theorem dX4_layTokens_32 : decode cX4_layTokens 32 = .ok (.invokevirtual 67, 3) := dk_182 0 67 (dk_at dksX4_layTokens_1 9 rfl rfl)
theorem dX4_layTokens_35 : decode cX4_layTokens 35 = .ok (.bipush 32, 2) := dk_16 32 (dk_at dksX4_layTokens_1 12 rfl rfl)
theorem dX4_layTokens_37 : decode cX4_layTokens 37 = .ok (.if_icmp .eq 9, 3) := dk_159 0 9 (dk_at dksX4_layTokens_1 14 rfl rfl)
theorem dX4_layTokens_40 : decode cX4_layTokens 40 = .ok (.iinc 2 1, 3) := dk_132 2 1 (dk_at dksX4_layTokens_1 17 rfl rfl)
theorem dX4_layTokens_43 : decode cX4_layTokens 43 = .ok (.goto (-23), 3) := dk_167 255 233 (dk_at dksX4_layTokens_1 20 rfl rfl)
theorem dX4_layTokens_46 : decode cX4_layTokens 46 = .ok (.iload_n 2, 1) := dk_28 (dk_at dksX4_layTokens_1 23 rfl rfl)
theorem dX4_layTokens_47 : decode cX4_layTokens 47 = .ok (.iload_n 3, 1) := dk_29 (dk_at dksX4_layTokens_2 0 rfl rfl)
theorem dX4_layTokens_48 : decode cX4_layTokens 48 = .ok (.if_icmp .le 50, 3) := dk_164 0 50 (dk_at dksX4_layTokens_2 1 rfl rfl)
theorem dX4_layTokens_51 : decode cX4_layTokens 51 = .ok (.aload_n 0, 1) := dk_42 (dk_at dksX4_layTokens_2 4 rfl rfl)
theorem dX4_layTokens_52 : decode cX4_layTokens 52 = .ok (.getfield 25, 3) := dk_180 0 25 (dk_at dksX4_layTokens_2 5 rfl rfl)
theorem dX4_layTokens_55 : decode cX4_layTokens 55 = .ok (.bipush 20, 2) := dk_16 20 (dk_at dksX4_layTokens_2 8 rfl rfl)
theorem dX4_layTokens_57 : decode cX4_layTokens 57 = .ok (.iload_n 1, 1) := dk_27 (dk_at dksX4_layTokens_2 10 rfl rfl)
theorem dX4_layTokens_58 : decode cX4_layTokens 58 = .ok (.imul, 1) := dk_104 (dk_at dksX4_layTokens_2 11 rfl rfl)
theorem dX4_layTokens_59 : decode cX4_layTokens 59 = .ok (.aload_n 0, 1) := dk_42 (dk_at dksX4_layTokens_2 12 rfl rfl)
theorem dX4_layTokens_60 : decode cX4_layTokens 60 = .ok (.getfield 22, 3) := dk_180 0 22 (dk_at dksX4_layTokens_2 13 rfl rfl)
theorem dX4_layTokens_63 : decode cX4_layTokens 63 = .ok (.iload_n 1, 1) := dk_27 (dk_at dksX4_layTokens_2 16 rfl rfl)
theorem dX4_layTokens_64 : decode cX4_layTokens 64 = .ok (.iaload, 1) := dk_46 (dk_at dksX4_layTokens_2 17 rfl rfl)
theorem dX4_layTokens_65 : decode cX4_layTokens 65 = .ok (.iadd, 1) := dk_96 (dk_at dksX4_layTokens_2 18 rfl rfl)
theorem dX4_layTokens_66 : decode cX4_layTokens 66 = .ok (.iload_n 3, 1) := dk_29 (dk_at dksX4_layTokens_2 19 rfl rfl)
theorem dX4_layTokens_67 : decode cX4_layTokens 67 = .ok (.iastore, 1) := dk_79 (dk_at dksX4_layTokens_2 20 rfl rfl)
theorem dX4_layTokens_68 : decode cX4_layTokens 68 = .ok (.aload_n 0, 1) := dk_42 (dk_at dksX4_layTokens_2 21 rfl rfl)
theorem dX4_layTokens_69 : decode cX4_layTokens 69 = .ok (.getfield 28, 3) := dk_180 0 28 (dk_at dksX4_layTokens_3 0 rfl rfl)
theorem dX4_layTokens_72 : decode cX4_layTokens 72 = .ok (.bipush 20, 2) := dk_16 20 (dk_at dksX4_layTokens_3 3 rfl rfl)
theorem dX4_layTokens_74 : decode cX4_layTokens 74 = .ok (.iload_n 1, 1) := dk_27 (dk_at dksX4_layTokens_3 5 rfl rfl)
theorem dX4_layTokens_75 : decode cX4_layTokens 75 = .ok (.imul, 1) := dk_104 (dk_at dksX4_layTokens_3 6 rfl rfl)
theorem dX4_layTokens_76 : decode cX4_layTokens 76 = .ok (.aload_n 0, 1) := dk_42 (dk_at dksX4_layTokens_3 7 rfl rfl)
theorem dX4_layTokens_77 : decode cX4_layTokens 77 = .ok (.getfield 22, 3) := dk_180 0 22 (dk_at dksX4_layTokens_3 8 rfl rfl)
theorem dX4_layTokens_80 : decode cX4_layTokens 80 = .ok (.iload_n 1, 1) := dk_27 (dk_at dksX4_layTokens_3 11 rfl rfl)
theorem dX4_layTokens_81 : decode cX4_layTokens 81 = .ok (.iaload, 1) := dk_46 (dk_at dksX4_layTokens_3 12 rfl rfl)
theorem dX4_layTokens_82 : decode cX4_layTokens 82 = .ok (.iadd, 1) := dk_96 (dk_at dksX4_layTokens_3 13 rfl rfl)
theorem dX4_layTokens_83 : decode cX4_layTokens 83 = .ok (.iload_n 2, 1) := dk_28 (dk_at dksX4_layTokens_3 14 rfl rfl)
theorem dX4_layTokens_84 : decode cX4_layTokens 84 = .ok (.iastore, 1) := dk_79 (dk_at dksX4_layTokens_3 15 rfl rfl)
theorem dX4_layTokens_85 : decode cX4_layTokens 85 = .ok (.aload_n 0, 1) := dk_42 (dk_at dksX4_layTokens_3 16 rfl rfl)
theorem dX4_layTokens_86 : decode cX4_layTokens 86 = .ok (.getfield 22, 3) := dk_180 0 22 (dk_at dksX4_layTokens_3 17 rfl rfl)
theorem dX4_layTokens_89 : decode cX4_layTokens 89 = .ok (.iload_n 1, 1) := dk_27 (dk_at dksX4_layTokens_3 20 rfl rfl)
theorem dX4_layTokens_90 : decode cX4_layTokens 90 = .ok (.dup2, 1) := dk_92 (dk_at dksX4_layTokens_3 21 rfl rfl)
theorem dX4_layTokens_91 : decode cX4_layTokens 91 = .ok (.iaload, 1) := dk_46 (dk_at dksX4_layTokens_3 22 rfl rfl)
theorem dX4_layTokens_92 : decode cX4_layTokens 92 = .ok (.iconst 1, 1) := dk_4 (dk_at dksX4_layTokens_3 23 rfl rfl)
theorem dX4_layTokens_93 : decode cX4_layTokens 93 = .ok (.iadd, 1) := dk_96 (dk_at dksX4_layTokens_4 0 rfl rfl)
theorem dX4_layTokens_94 : decode cX4_layTokens 94 = .ok (.iastore, 1) := dk_79 (dk_at dksX4_layTokens_4 1 rfl rfl)
theorem dX4_layTokens_95 : decode cX4_layTokens 95 = .ok (.goto 6, 3) := dk_167 0 6 (dk_at dksX4_layTokens_4 2 rfl rfl)
theorem dX4_layTokens_98 : decode cX4_layTokens 98 = .ok (.iinc 2 1, 3) := dk_132 2 1 (dk_at dksX4_layTokens_4 5 rfl rfl)
theorem dX4_layTokens_101 : decode cX4_layTokens 101 = .ok (.goto (-92), 3) := dk_167 255 164 (dk_at dksX4_layTokens_4 8 rfl rfl)
theorem dX4_layTokens_104 : decode cX4_layTokens 104 = .ok (.return_, 1) := dk_177 (dk_at dksX4_layTokens_4 11 rfl rfl)
abbrev cX4_lengthOf : ByteArray := prog_17_method_6_code
def yX4_lengthOf : MethodName := ⟨RX4, "lengthOf", "(I)I"⟩
def dkwX4_lengthOf_0 : List UInt8 := [42, 180, 0, 9, 5, 27, 96, 46, 172]
abbrev dktX4_lengthOf_0 : List UInt8 := dkwX4_lengthOf_0 ++ []
theorem dksX4_lengthOf_0 : cX4_lengthOf.data.toList.drop 0 = dktX4_lengthOf_0 := by decide +kernel
theorem dX4_lengthOf_0 : decode cX4_lengthOf 0 = .ok (.aload_n 0, 1) := dk_42 (dk_at dksX4_lengthOf_0 0 rfl rfl)
theorem dX4_lengthOf_1 : decode cX4_lengthOf 1 = .ok (.getfield 9, 3) := dk_180 0 9 (dk_at dksX4_lengthOf_0 1 rfl rfl)
theorem dX4_lengthOf_4 : decode cX4_lengthOf 4 = .ok (.iconst 2, 1) := dk_5 (dk_at dksX4_lengthOf_0 4 rfl rfl)
theorem dX4_lengthOf_5 : decode cX4_lengthOf 5 = .ok (.iload_n 1, 1) := dk_27 (dk_at dksX4_lengthOf_0 5 rfl rfl)
theorem dX4_lengthOf_6 : decode cX4_lengthOf 6 = .ok (.iadd, 1) := dk_96 (dk_at dksX4_lengthOf_0 6 rfl rfl)
theorem dX4_lengthOf_7 : decode cX4_lengthOf 7 = .ok (.iaload, 1) := dk_46 (dk_at dksX4_lengthOf_0 7 rfl rfl)
theorem dX4_lengthOf_8 : decode cX4_lengthOf 8 = .ok (.ireturn, 1) := dk_172 (dk_at dksX4_lengthOf_0 8 rfl rfl)
abbrev cX4_charAt : ByteArray := prog_17_method_7_code
def yX4_charAt : MethodName := ⟨RX4, "charAt", "(II)I"⟩
def dkwX4_charAt_0 : List UInt8 := [42, 180, 0, 9, 16, 84, 16, 40, 27, 104, 96, 28, 96, 46, 172]
abbrev dktX4_charAt_0 : List UInt8 := dkwX4_charAt_0 ++ []
theorem dksX4_charAt_0 : cX4_charAt.data.toList.drop 0 = dktX4_charAt_0 := by decide +kernel
theorem dX4_charAt_0 : decode cX4_charAt 0 = .ok (.aload_n 0, 1) := dk_42 (dk_at dksX4_charAt_0 0 rfl rfl)
theorem dX4_charAt_1 : decode cX4_charAt 1 = .ok (.getfield 9, 3) := dk_180 0 9 (dk_at dksX4_charAt_0 1 rfl rfl)
theorem dX4_charAt_4 : decode cX4_charAt 4 = .ok (.bipush 84, 2) := dk_16 84 (dk_at dksX4_charAt_0 4 rfl rfl)
theorem dX4_charAt_6 : decode cX4_charAt 6 = .ok (.bipush 40, 2) := dk_16 40 (dk_at dksX4_charAt_0 6 rfl rfl)
theorem dX4_charAt_8 : decode cX4_charAt 8 = .ok (.iload_n 1, 1) := dk_27 (dk_at dksX4_charAt_0 8 rfl rfl)
theorem dX4_charAt_9 : decode cX4_charAt 9 = .ok (.imul, 1) := dk_104 (dk_at dksX4_charAt_0 9 rfl rfl)
theorem dX4_charAt_10 : decode cX4_charAt 10 = .ok (.iadd, 1) := dk_96 (dk_at dksX4_charAt_0 10 rfl rfl)
theorem dX4_charAt_11 : decode cX4_charAt 11 = .ok (.iload_n 2, 1) := dk_28 (dk_at dksX4_charAt_0 11 rfl rfl)
theorem dX4_charAt_12 : decode cX4_charAt 12 = .ok (.iadd, 1) := dk_96 (dk_at dksX4_charAt_0 12 rfl rfl)
theorem dX4_charAt_13 : decode cX4_charAt 13 = .ok (.iaload, 1) := dk_46 (dk_at dksX4_charAt_0 13 rfl rfl)
theorem dX4_charAt_14 : decode cX4_charAt 14 = .ok (.ireturn, 1) := dk_172 (dk_at dksX4_charAt_0 14 rfl rfl)
abbrev cX4_takerOf : ByteArray := prog_17_method_33_code
def yX4_takerOf : MethodName := ⟨RX4, "takerOf", "(I)I"⟩
def dkwX4_takerOf_7 : List UInt8 := [167, 0, 4, 28, 61, 132, 3, 1, 167, 255, 163, 28, 155, 0, 7, 28, 167, 0, 7, 42, 182, 0, 134, 172]
abbrev dktX4_takerOf_7 : List UInt8 := dkwX4_takerOf_7 ++ []
def dkwX4_takerOf_6 : List UInt8 := [153, 0, 26, 28, 155, 0, 18, 42, 29, 27, 182, 0, 131, 42, 28, 27, 182, 0, 131, 164, 0, 7, 29]
abbrev dktX4_takerOf_6 : List UInt8 := dkwX4_takerOf_6 ++ dktX4_takerOf_7
def dkwX4_takerOf_5 : List UInt8 := [180, 0, 9, 4, 46, 42, 180, 0, 22, 27, 46, 104, 161, 0, 7, 4, 167, 0, 4, 3, 54, 4, 21, 4]
abbrev dktX4_takerOf_5 : List UInt8 := dkwX4_takerOf_5 ++ dktX4_takerOf_6
def dkwX4_takerOf_4 : List UInt8 := [29, 3, 182, 0, 88, 27, 182, 0, 104, 153, 0, 32, 16, 100, 42, 29, 27, 182, 0, 131, 104, 42]
abbrev dktX4_takerOf_4 : List UInt8 := dkwX4_takerOf_4 ++ dktX4_takerOf_5
def dkwX4_takerOf_3 : List UInt8 := [28, 155, 0, 5, 28, 172, 3, 62, 29, 16, 12, 162, 0, 93, 42, 29, 182, 0, 91, 153, 0, 46, 42, 42]
abbrev dktX4_takerOf_3 : List UInt8 := dkwX4_takerOf_3 ++ dktX4_takerOf_4
def dkwX4_takerOf_2 : List UInt8 := [182, 0, 131, 42, 28, 27, 182, 0, 131, 164, 0, 7, 29, 167, 0, 4, 28, 61, 132, 3, 1, 167, 255, 193]
abbrev dktX4_takerOf_2 : List UInt8 := dkwX4_takerOf_2 ++ dktX4_takerOf_3
def dkwX4_takerOf_1 : List UInt8 := [153, 0, 7, 4, 167, 0, 4, 3, 54, 4, 21, 4, 153, 0, 26, 28, 155, 0, 18, 42, 29, 27]
abbrev dktX4_takerOf_1 : List UInt8 := dkwX4_takerOf_1 ++ dktX4_takerOf_2
def dkwX4_takerOf_0 : List UInt8 := [2, 61, 3, 62, 29, 16, 12, 162, 0, 63, 42, 29, 182, 0, 91, 153, 0, 16, 42, 29, 27, 182, 0, 128]
abbrev dktX4_takerOf_0 : List UInt8 := dkwX4_takerOf_0 ++ dktX4_takerOf_1
theorem dksX4_takerOf_0 : cX4_takerOf.data.toList.drop 0 = dktX4_takerOf_0 := by decide +kernel
theorem dksX4_takerOf_1 : cX4_takerOf.data.toList.drop 24 = dktX4_takerOf_1 := dk_seg dksX4_takerOf_0 24 rfl rfl
theorem dksX4_takerOf_2 : cX4_takerOf.data.toList.drop 46 = dktX4_takerOf_2 := dk_seg dksX4_takerOf_1 22 rfl rfl
theorem dksX4_takerOf_3 : cX4_takerOf.data.toList.drop 70 = dktX4_takerOf_3 := dk_seg dksX4_takerOf_2 24 rfl rfl
theorem dksX4_takerOf_4 : cX4_takerOf.data.toList.drop 94 = dktX4_takerOf_4 := dk_seg dksX4_takerOf_3 24 rfl rfl
theorem dksX4_takerOf_5 : cX4_takerOf.data.toList.drop 116 = dktX4_takerOf_5 := dk_seg dksX4_takerOf_4 22 rfl rfl
theorem dksX4_takerOf_6 : cX4_takerOf.data.toList.drop 140 = dktX4_takerOf_6 := dk_seg dksX4_takerOf_5 24 rfl rfl
theorem dksX4_takerOf_7 : cX4_takerOf.data.toList.drop 163 = dktX4_takerOf_7 := dk_seg dksX4_takerOf_6 23 rfl rfl
theorem dX4_takerOf_0 : decode cX4_takerOf 0 = .ok (.iconst (-1), 1) := dk_2 (dk_at dksX4_takerOf_0 0 rfl rfl)
theorem dX4_takerOf_1 : decode cX4_takerOf 1 = .ok (.istore_n 2, 1) := dk_61 (dk_at dksX4_takerOf_0 1 rfl rfl)
theorem dX4_takerOf_2 : decode cX4_takerOf 2 = .ok (.iconst 0, 1) := dk_3 (dk_at dksX4_takerOf_0 2 rfl rfl)
theorem dX4_takerOf_3 : decode cX4_takerOf 3 = .ok (.istore_n 3, 1) := dk_62 (dk_at dksX4_takerOf_0 3 rfl rfl)
theorem dX4_takerOf_4 : decode cX4_takerOf 4 = .ok (.iload_n 3, 1) := dk_29 (dk_at dksX4_takerOf_0 4 rfl rfl)
theorem dX4_takerOf_5 : decode cX4_takerOf 5 = .ok (.bipush 12, 2) := dk_16 12 (dk_at dksX4_takerOf_0 5 rfl rfl)
theorem dX4_takerOf_7 : decode cX4_takerOf 7 = .ok (.if_icmp .ge 63, 3) := dk_162 0 63 (dk_at dksX4_takerOf_0 7 rfl rfl)
theorem dX4_takerOf_10 : decode cX4_takerOf 10 = .ok (.aload_n 0, 1) := dk_42 (dk_at dksX4_takerOf_0 10 rfl rfl)
theorem dX4_takerOf_11 : decode cX4_takerOf 11 = .ok (.iload_n 3, 1) := dk_29 (dk_at dksX4_takerOf_0 11 rfl rfl)
theorem dX4_takerOf_12 : decode cX4_takerOf 12 = .ok (.invokevirtual 91, 3) := dk_182 0 91 (dk_at dksX4_takerOf_0 12 rfl rfl)
theorem dX4_takerOf_15 : decode cX4_takerOf 15 = .ok (.ifCond .eq 16, 3) := dk_153 0 16 (dk_at dksX4_takerOf_0 15 rfl rfl)
theorem dX4_takerOf_18 : decode cX4_takerOf 18 = .ok (.aload_n 0, 1) := dk_42 (dk_at dksX4_takerOf_0 18 rfl rfl)
theorem dX4_takerOf_19 : decode cX4_takerOf 19 = .ok (.iload_n 3, 1) := dk_29 (dk_at dksX4_takerOf_0 19 rfl rfl)
theorem dX4_takerOf_20 : decode cX4_takerOf 20 = .ok (.iload_n 1, 1) := dk_27 (dk_at dksX4_takerOf_0 20 rfl rfl)
theorem dX4_takerOf_21 : decode cX4_takerOf 21 = .ok (.invokevirtual 128, 3) := dk_182 0 128 (dk_at dksX4_takerOf_0 21 rfl rfl)
theorem dX4_takerOf_24 : decode cX4_takerOf 24 = .ok (.ifCond .eq 7, 3) := dk_153 0 7 (dk_at dksX4_takerOf_1 0 rfl rfl)
theorem dX4_takerOf_27 : decode cX4_takerOf 27 = .ok (.iconst 1, 1) := dk_4 (dk_at dksX4_takerOf_1 3 rfl rfl)
theorem dX4_takerOf_28 : decode cX4_takerOf 28 = .ok (.goto 4, 3) := dk_167 0 4 (dk_at dksX4_takerOf_1 4 rfl rfl)
theorem dX4_takerOf_31 : decode cX4_takerOf 31 = .ok (.iconst 0, 1) := dk_3 (dk_at dksX4_takerOf_1 7 rfl rfl)
theorem dX4_takerOf_32 : decode cX4_takerOf 32 = .ok (.istore 4, 2) := dk_54 4 (dk_at dksX4_takerOf_1 8 rfl rfl)
theorem dX4_takerOf_34 : decode cX4_takerOf 34 = .ok (.iload 4, 2) := dk_21 4 (dk_at dksX4_takerOf_1 10 rfl rfl)
theorem dX4_takerOf_36 : decode cX4_takerOf 36 = .ok (.ifCond .eq 26, 3) := dk_153 0 26 (dk_at dksX4_takerOf_1 12 rfl rfl)
theorem dX4_takerOf_39 : decode cX4_takerOf 39 = .ok (.iload_n 2, 1) := dk_28 (dk_at dksX4_takerOf_1 15 rfl rfl)
theorem dX4_takerOf_40 : decode cX4_takerOf 40 = .ok (.ifCond .lt 18, 3) := dk_155 0 18 (dk_at dksX4_takerOf_1 16 rfl rfl)
theorem dX4_takerOf_43 : decode cX4_takerOf 43 = .ok (.aload_n 0, 1) := dk_42 (dk_at dksX4_takerOf_1 19 rfl rfl)
theorem dX4_takerOf_44 : decode cX4_takerOf 44 = .ok (.iload_n 3, 1) := dk_29 (dk_at dksX4_takerOf_1 20 rfl rfl)
theorem dX4_takerOf_45 : decode cX4_takerOf 45 = .ok (.iload_n 1, 1) := dk_27 (dk_at dksX4_takerOf_1 21 rfl rfl)
theorem dX4_takerOf_46 : decode cX4_takerOf 46 = .ok (.invokevirtual 131, 3) := dk_182 0 131 (dk_at dksX4_takerOf_2 0 rfl rfl)
theorem dX4_takerOf_49 : decode cX4_takerOf 49 = .ok (.aload_n 0, 1) := dk_42 (dk_at dksX4_takerOf_2 3 rfl rfl)
theorem dX4_takerOf_50 : decode cX4_takerOf 50 = .ok (.iload_n 2, 1) := dk_28 (dk_at dksX4_takerOf_2 4 rfl rfl)
theorem dX4_takerOf_51 : decode cX4_takerOf 51 = .ok (.iload_n 1, 1) := dk_27 (dk_at dksX4_takerOf_2 5 rfl rfl)
theorem dX4_takerOf_52 : decode cX4_takerOf 52 = .ok (.invokevirtual 131, 3) := dk_182 0 131 (dk_at dksX4_takerOf_2 6 rfl rfl)
theorem dX4_takerOf_55 : decode cX4_takerOf 55 = .ok (.if_icmp .le 7, 3) := dk_164 0 7 (dk_at dksX4_takerOf_2 9 rfl rfl)
theorem dX4_takerOf_58 : decode cX4_takerOf 58 = .ok (.iload_n 3, 1) := dk_29 (dk_at dksX4_takerOf_2 12 rfl rfl)
theorem dX4_takerOf_59 : decode cX4_takerOf 59 = .ok (.goto 4, 3) := dk_167 0 4 (dk_at dksX4_takerOf_2 13 rfl rfl)
theorem dX4_takerOf_62 : decode cX4_takerOf 62 = .ok (.iload_n 2, 1) := dk_28 (dk_at dksX4_takerOf_2 16 rfl rfl)
theorem dX4_takerOf_63 : decode cX4_takerOf 63 = .ok (.istore_n 2, 1) := dk_61 (dk_at dksX4_takerOf_2 17 rfl rfl)
theorem dX4_takerOf_64 : decode cX4_takerOf 64 = .ok (.iinc 3 1, 3) := dk_132 3 1 (dk_at dksX4_takerOf_2 18 rfl rfl)
theorem dX4_takerOf_67 : decode cX4_takerOf 67 = .ok (.goto (-63), 3) := dk_167 255 193 (dk_at dksX4_takerOf_2 21 rfl rfl)
theorem dX4_takerOf_70 : decode cX4_takerOf 70 = .ok (.iload_n 2, 1) := dk_28 (dk_at dksX4_takerOf_3 0 rfl rfl)
theorem dX4_takerOf_71 : decode cX4_takerOf 71 = .ok (.ifCond .lt 5, 3) := dk_155 0 5 (dk_at dksX4_takerOf_3 1 rfl rfl)
theorem dX4_takerOf_74 : decode cX4_takerOf 74 = .ok (.iload_n 2, 1) := dk_28 (dk_at dksX4_takerOf_3 4 rfl rfl)
theorem dX4_takerOf_75 : decode cX4_takerOf 75 = .ok (.ireturn, 1) := dk_172 (dk_at dksX4_takerOf_3 5 rfl rfl)
theorem dX4_takerOf_76 : decode cX4_takerOf 76 = .ok (.iconst 0, 1) := dk_3 (dk_at dksX4_takerOf_3 6 rfl rfl)
theorem dX4_takerOf_77 : decode cX4_takerOf 77 = .ok (.istore_n 3, 1) := dk_62 (dk_at dksX4_takerOf_3 7 rfl rfl)
theorem dX4_takerOf_78 : decode cX4_takerOf 78 = .ok (.iload_n 3, 1) := dk_29 (dk_at dksX4_takerOf_3 8 rfl rfl)
theorem dX4_takerOf_79 : decode cX4_takerOf 79 = .ok (.bipush 12, 2) := dk_16 12 (dk_at dksX4_takerOf_3 9 rfl rfl)
theorem dX4_takerOf_81 : decode cX4_takerOf 81 = .ok (.if_icmp .ge 93, 3) := dk_162 0 93 (dk_at dksX4_takerOf_3 11 rfl rfl)
theorem dX4_takerOf_84 : decode cX4_takerOf 84 = .ok (.aload_n 0, 1) := dk_42 (dk_at dksX4_takerOf_3 14 rfl rfl)
theorem dX4_takerOf_85 : decode cX4_takerOf 85 = .ok (.iload_n 3, 1) := dk_29 (dk_at dksX4_takerOf_3 15 rfl rfl)
theorem dX4_takerOf_86 : decode cX4_takerOf 86 = .ok (.invokevirtual 91, 3) := dk_182 0 91 (dk_at dksX4_takerOf_3 16 rfl rfl)
theorem dX4_takerOf_89 : decode cX4_takerOf 89 = .ok (.ifCond .eq 46, 3) := dk_153 0 46 (dk_at dksX4_takerOf_3 19 rfl rfl)
theorem dX4_takerOf_92 : decode cX4_takerOf 92 = .ok (.aload_n 0, 1) := dk_42 (dk_at dksX4_takerOf_3 22 rfl rfl)
theorem dX4_takerOf_93 : decode cX4_takerOf 93 = .ok (.aload_n 0, 1) := dk_42 (dk_at dksX4_takerOf_3 23 rfl rfl)
theorem dX4_takerOf_94 : decode cX4_takerOf 94 = .ok (.iload_n 3, 1) := dk_29 (dk_at dksX4_takerOf_4 0 rfl rfl)
theorem dX4_takerOf_95 : decode cX4_takerOf 95 = .ok (.iconst 0, 1) := dk_3 (dk_at dksX4_takerOf_4 1 rfl rfl)
theorem dX4_takerOf_96 : decode cX4_takerOf 96 = .ok (.invokevirtual 88, 3) := dk_182 0 88 (dk_at dksX4_takerOf_4 2 rfl rfl)
theorem dX4_takerOf_99 : decode cX4_takerOf 99 = .ok (.iload_n 1, 1) := dk_27 (dk_at dksX4_takerOf_4 5 rfl rfl)
theorem dX4_takerOf_100 : decode cX4_takerOf 100 = .ok (.invokevirtual 104, 3) := dk_182 0 104 (dk_at dksX4_takerOf_4 6 rfl rfl)
theorem dX4_takerOf_103 : decode cX4_takerOf 103 = .ok (.ifCond .eq 32, 3) := dk_153 0 32 (dk_at dksX4_takerOf_4 9 rfl rfl)
theorem dX4_takerOf_106 : decode cX4_takerOf 106 = .ok (.bipush 100, 2) := dk_16 100 (dk_at dksX4_takerOf_4 12 rfl rfl)
theorem dX4_takerOf_108 : decode cX4_takerOf 108 = .ok (.aload_n 0, 1) := dk_42 (dk_at dksX4_takerOf_4 14 rfl rfl)
theorem dX4_takerOf_109 : decode cX4_takerOf 109 = .ok (.iload_n 3, 1) := dk_29 (dk_at dksX4_takerOf_4 15 rfl rfl)
theorem dX4_takerOf_110 : decode cX4_takerOf 110 = .ok (.iload_n 1, 1) := dk_27 (dk_at dksX4_takerOf_4 16 rfl rfl)
theorem dX4_takerOf_111 : decode cX4_takerOf 111 = .ok (.invokevirtual 131, 3) := dk_182 0 131 (dk_at dksX4_takerOf_4 17 rfl rfl)
theorem dX4_takerOf_114 : decode cX4_takerOf 114 = .ok (.imul, 1) := dk_104 (dk_at dksX4_takerOf_4 20 rfl rfl)
theorem dX4_takerOf_115 : decode cX4_takerOf 115 = .ok (.aload_n 0, 1) := dk_42 (dk_at dksX4_takerOf_4 21 rfl rfl)
theorem dX4_takerOf_116 : decode cX4_takerOf 116 = .ok (.getfield 9, 3) := dk_180 0 9 (dk_at dksX4_takerOf_5 0 rfl rfl)
theorem dX4_takerOf_119 : decode cX4_takerOf 119 = .ok (.iconst 1, 1) := dk_4 (dk_at dksX4_takerOf_5 3 rfl rfl)
theorem dX4_takerOf_120 : decode cX4_takerOf 120 = .ok (.iaload, 1) := dk_46 (dk_at dksX4_takerOf_5 4 rfl rfl)
theorem dX4_takerOf_121 : decode cX4_takerOf 121 = .ok (.aload_n 0, 1) := dk_42 (dk_at dksX4_takerOf_5 5 rfl rfl)
theorem dX4_takerOf_122 : decode cX4_takerOf 122 = .ok (.getfield 22, 3) := dk_180 0 22 (dk_at dksX4_takerOf_5 6 rfl rfl)
theorem dX4_takerOf_125 : decode cX4_takerOf 125 = .ok (.iload_n 1, 1) := dk_27 (dk_at dksX4_takerOf_5 9 rfl rfl)
theorem dX4_takerOf_126 : decode cX4_takerOf 126 = .ok (.iaload, 1) := dk_46 (dk_at dksX4_takerOf_5 10 rfl rfl)
theorem dX4_takerOf_127 : decode cX4_takerOf 127 = .ok (.imul, 1) := dk_104 (dk_at dksX4_takerOf_5 11 rfl rfl)
theorem dX4_takerOf_128 : decode cX4_takerOf 128 = .ok (.if_icmp .lt 7, 3) := dk_161 0 7 (dk_at dksX4_takerOf_5 12 rfl rfl)
theorem dX4_takerOf_131 : decode cX4_takerOf 131 = .ok (.iconst 1, 1) := dk_4 (dk_at dksX4_takerOf_5 15 rfl rfl)
theorem dX4_takerOf_132 : decode cX4_takerOf 132 = .ok (.goto 4, 3) := dk_167 0 4 (dk_at dksX4_takerOf_5 16 rfl rfl)
theorem dX4_takerOf_135 : decode cX4_takerOf 135 = .ok (.iconst 0, 1) := dk_3 (dk_at dksX4_takerOf_5 19 rfl rfl)
theorem dX4_takerOf_136 : decode cX4_takerOf 136 = .ok (.istore 4, 2) := dk_54 4 (dk_at dksX4_takerOf_5 20 rfl rfl)
theorem dX4_takerOf_138 : decode cX4_takerOf 138 = .ok (.iload 4, 2) := dk_21 4 (dk_at dksX4_takerOf_5 22 rfl rfl)
theorem dX4_takerOf_140 : decode cX4_takerOf 140 = .ok (.ifCond .eq 26, 3) := dk_153 0 26 (dk_at dksX4_takerOf_6 0 rfl rfl)
theorem dX4_takerOf_143 : decode cX4_takerOf 143 = .ok (.iload_n 2, 1) := dk_28 (dk_at dksX4_takerOf_6 3 rfl rfl)
theorem dX4_takerOf_144 : decode cX4_takerOf 144 = .ok (.ifCond .lt 18, 3) := dk_155 0 18 (dk_at dksX4_takerOf_6 4 rfl rfl)
theorem dX4_takerOf_147 : decode cX4_takerOf 147 = .ok (.aload_n 0, 1) := dk_42 (dk_at dksX4_takerOf_6 7 rfl rfl)
theorem dX4_takerOf_148 : decode cX4_takerOf 148 = .ok (.iload_n 3, 1) := dk_29 (dk_at dksX4_takerOf_6 8 rfl rfl)
theorem dX4_takerOf_149 : decode cX4_takerOf 149 = .ok (.iload_n 1, 1) := dk_27 (dk_at dksX4_takerOf_6 9 rfl rfl)
theorem dX4_takerOf_150 : decode cX4_takerOf 150 = .ok (.invokevirtual 131, 3) := dk_182 0 131 (dk_at dksX4_takerOf_6 10 rfl rfl)
theorem dX4_takerOf_153 : decode cX4_takerOf 153 = .ok (.aload_n 0, 1) := dk_42 (dk_at dksX4_takerOf_6 13 rfl rfl)
theorem dX4_takerOf_154 : decode cX4_takerOf 154 = .ok (.iload_n 2, 1) := dk_28 (dk_at dksX4_takerOf_6 14 rfl rfl)
theorem dX4_takerOf_155 : decode cX4_takerOf 155 = .ok (.iload_n 1, 1) := dk_27 (dk_at dksX4_takerOf_6 15 rfl rfl)
theorem dX4_takerOf_156 : decode cX4_takerOf 156 = .ok (.invokevirtual 131, 3) := dk_182 0 131 (dk_at dksX4_takerOf_6 16 rfl rfl)
theorem dX4_takerOf_159 : decode cX4_takerOf 159 = .ok (.if_icmp .le 7, 3) := dk_164 0 7 (dk_at dksX4_takerOf_6 19 rfl rfl)
theorem dX4_takerOf_162 : decode cX4_takerOf 162 = .ok (.iload_n 3, 1) := dk_29 (dk_at dksX4_takerOf_6 22 rfl rfl)
theorem dX4_takerOf_163 : decode cX4_takerOf 163 = .ok (.goto 4, 3) := dk_167 0 4 (dk_at dksX4_takerOf_7 0 rfl rfl)
theorem dX4_takerOf_166 : decode cX4_takerOf 166 = .ok (.iload_n 2, 1) := dk_28 (dk_at dksX4_takerOf_7 3 rfl rfl)
theorem dX4_takerOf_167 : decode cX4_takerOf 167 = .ok (.istore_n 2, 1) := dk_61 (dk_at dksX4_takerOf_7 4 rfl rfl)
theorem dX4_takerOf_168 : decode cX4_takerOf 168 = .ok (.iinc 3 1, 3) := dk_132 3 1 (dk_at dksX4_takerOf_7 5 rfl rfl)
theorem dX4_takerOf_171 : decode cX4_takerOf 171 = .ok (.goto (-93), 3) := dk_167 255 163 (dk_at dksX4_takerOf_7 8 rfl rfl)
theorem dX4_takerOf_174 : decode cX4_takerOf 174 = .ok (.iload_n 2, 1) := dk_28 (dk_at dksX4_takerOf_7 11 rfl rfl)
theorem dX4_takerOf_175 : decode cX4_takerOf 175 = .ok (.ifCond .lt 7, 3) := dk_155 0 7 (dk_at dksX4_takerOf_7 12 rfl rfl)
theorem dX4_takerOf_178 : decode cX4_takerOf 178 = .ok (.iload_n 2, 1) := dk_28 (dk_at dksX4_takerOf_7 15 rfl rfl)
theorem dX4_takerOf_179 : decode cX4_takerOf 179 = .ok (.goto 7, 3) := dk_167 0 7 (dk_at dksX4_takerOf_7 16 rfl rfl)
theorem dX4_takerOf_182 : decode cX4_takerOf 182 = .ok (.aload_n 0, 1) := dk_42 (dk_at dksX4_takerOf_7 19 rfl rfl)
theorem dX4_takerOf_183 : decode cX4_takerOf 183 = .ok (.invokevirtual 134, 3) := dk_182 0 134 (dk_at dksX4_takerOf_7 20 rfl rfl)
theorem dX4_takerOf_186 : decode cX4_takerOf 186 = .ok (.ireturn, 1) := dk_172 (dk_at dksX4_takerOf_7 23 rfl rfl)
abbrev cX4_isTemplate : ByteArray := prog_17_method_20_code
def yX4_isTemplate : MethodName := ⟨RX4, "isTemplate", "(I)Z"⟩
def dkwX4_isTemplate_1 : List UInt8 := [172]
abbrev dktX4_isTemplate_1 : List UInt8 := dkwX4_isTemplate_1 ++ []
def dkwX4_isTemplate_0 : List UInt8 := [27, 3, 16, 11, 184, 0, 59, 153, 0, 16, 42, 27, 3, 182, 0, 88, 155, 0, 7, 4, 167, 0, 4, 3]
abbrev dktX4_isTemplate_0 : List UInt8 := dkwX4_isTemplate_0 ++ dktX4_isTemplate_1
theorem dksX4_isTemplate_0 : cX4_isTemplate.data.toList.drop 0 = dktX4_isTemplate_0 := by decide +kernel
theorem dksX4_isTemplate_1 : cX4_isTemplate.data.toList.drop 24 = dktX4_isTemplate_1 := dk_seg dksX4_isTemplate_0 24 rfl rfl
theorem dX4_isTemplate_0 : decode cX4_isTemplate 0 = .ok (.iload_n 1, 1) := dk_27 (dk_at dksX4_isTemplate_0 0 rfl rfl)
theorem dX4_isTemplate_1 : decode cX4_isTemplate 1 = .ok (.iconst 0, 1) := dk_3 (dk_at dksX4_isTemplate_0 1 rfl rfl)
theorem dX4_isTemplate_2 : decode cX4_isTemplate 2 = .ok (.bipush 11, 2) := dk_16 11 (dk_at dksX4_isTemplate_0 2 rfl rfl)
theorem dX4_isTemplate_4 : decode cX4_isTemplate 4 = .ok (.invokestatic 59, 3) := dk_184 0 59 (dk_at dksX4_isTemplate_0 4 rfl rfl)
theorem dX4_isTemplate_7 : decode cX4_isTemplate 7 = .ok (.ifCond .eq 16, 3) := dk_153 0 16 (dk_at dksX4_isTemplate_0 7 rfl rfl)
theorem dX4_isTemplate_10 : decode cX4_isTemplate 10 = .ok (.aload_n 0, 1) := dk_42 (dk_at dksX4_isTemplate_0 10 rfl rfl)
theorem dX4_isTemplate_11 : decode cX4_isTemplate 11 = .ok (.iload_n 1, 1) := dk_27 (dk_at dksX4_isTemplate_0 11 rfl rfl)
theorem dX4_isTemplate_12 : decode cX4_isTemplate 12 = .ok (.iconst 0, 1) := dk_3 (dk_at dksX4_isTemplate_0 12 rfl rfl)
theorem dX4_isTemplate_13 : decode cX4_isTemplate 13 = .ok (.invokevirtual 88, 3) := dk_182 0 88 (dk_at dksX4_isTemplate_0 13 rfl rfl)
theorem dX4_isTemplate_16 : decode cX4_isTemplate 16 = .ok (.ifCond .lt 7, 3) := dk_155 0 7 (dk_at dksX4_isTemplate_0 16 rfl rfl)
theorem dX4_isTemplate_19 : decode cX4_isTemplate 19 = .ok (.iconst 1, 1) := dk_4 (dk_at dksX4_isTemplate_0 19 rfl rfl)
theorem dX4_isTemplate_20 : decode cX4_isTemplate 20 = .ok (.goto 4, 3) := dk_167 0 4 (dk_at dksX4_isTemplate_0 20 rfl rfl)
theorem dX4_isTemplate_23 : decode cX4_isTemplate 23 = .ok (.iconst 0, 1) := dk_3 (dk_at dksX4_isTemplate_0 23 rfl rfl)
theorem dX4_isTemplate_24 : decode cX4_isTemplate 24 = .ok (.ireturn, 1) := dk_172 (dk_at dksX4_isTemplate_1 0 rfl rfl)
abbrev cX4_lineOf : ByteArray := prog_17_method_19_code
def yX4_lineOf : MethodName := ⟨RX4, "lineOf", "(II)I"⟩
def dkwX4_lineOf_1 : List UInt8 := [96, 46, 27, 160, 0, 13, 29, 154, 0, 6, 21, 4, 172, 132, 3, 255, 132, 4, 1, 167, 255, 218, 2, 172]
abbrev dktX4_lineOf_1 : List UInt8 := dkwX4_lineOf_1 ++ []
def dkwX4_lineOf_0 : List UInt8 := [28, 62, 3, 54, 4, 21, 4, 42, 180, 0, 9, 3, 46, 162, 0, 33, 42, 180, 0, 9, 16, 43, 21, 4]
abbrev dktX4_lineOf_0 : List UInt8 := dkwX4_lineOf_0 ++ dktX4_lineOf_1
theorem dksX4_lineOf_0 : cX4_lineOf.data.toList.drop 0 = dktX4_lineOf_0 := by decide +kernel
theorem dksX4_lineOf_1 : cX4_lineOf.data.toList.drop 24 = dktX4_lineOf_1 := dk_seg dksX4_lineOf_0 24 rfl rfl
theorem dX4_lineOf_0 : decode cX4_lineOf 0 = .ok (.iload_n 2, 1) := dk_28 (dk_at dksX4_lineOf_0 0 rfl rfl)
theorem dX4_lineOf_1 : decode cX4_lineOf 1 = .ok (.istore_n 3, 1) := dk_62 (dk_at dksX4_lineOf_0 1 rfl rfl)
theorem dX4_lineOf_2 : decode cX4_lineOf 2 = .ok (.iconst 0, 1) := dk_3 (dk_at dksX4_lineOf_0 2 rfl rfl)
theorem dX4_lineOf_3 : decode cX4_lineOf 3 = .ok (.istore 4, 2) := dk_54 4 (dk_at dksX4_lineOf_0 3 rfl rfl)
theorem dX4_lineOf_5 : decode cX4_lineOf 5 = .ok (.iload 4, 2) := dk_21 4 (dk_at dksX4_lineOf_0 5 rfl rfl)
theorem dX4_lineOf_7 : decode cX4_lineOf 7 = .ok (.aload_n 0, 1) := dk_42 (dk_at dksX4_lineOf_0 7 rfl rfl)
theorem dX4_lineOf_8 : decode cX4_lineOf 8 = .ok (.getfield 9, 3) := dk_180 0 9 (dk_at dksX4_lineOf_0 8 rfl rfl)
theorem dX4_lineOf_11 : decode cX4_lineOf 11 = .ok (.iconst 0, 1) := dk_3 (dk_at dksX4_lineOf_0 11 rfl rfl)
theorem dX4_lineOf_12 : decode cX4_lineOf 12 = .ok (.iaload, 1) := dk_46 (dk_at dksX4_lineOf_0 12 rfl rfl)
theorem dX4_lineOf_13 : decode cX4_lineOf 13 = .ok (.if_icmp .ge 33, 3) := dk_162 0 33 (dk_at dksX4_lineOf_0 13 rfl rfl)
theorem dX4_lineOf_16 : decode cX4_lineOf 16 = .ok (.aload_n 0, 1) := dk_42 (dk_at dksX4_lineOf_0 16 rfl rfl)
theorem dX4_lineOf_17 : decode cX4_lineOf 17 = .ok (.getfield 9, 3) := dk_180 0 9 (dk_at dksX4_lineOf_0 17 rfl rfl)
theorem dX4_lineOf_20 : decode cX4_lineOf 20 = .ok (.bipush 43, 2) := dk_16 43 (dk_at dksX4_lineOf_0 20 rfl rfl)
theorem dX4_lineOf_22 : decode cX4_lineOf 22 = .ok (.iload 4, 2) := dk_21 4 (dk_at dksX4_lineOf_0 22 rfl rfl)
theorem dX4_lineOf_24 : decode cX4_lineOf 24 = .ok (.iadd, 1) := dk_96 (dk_at dksX4_lineOf_1 0 rfl rfl)
theorem dX4_lineOf_25 : decode cX4_lineOf 25 = .ok (.iaload, 1) := dk_46 (dk_at dksX4_lineOf_1 1 rfl rfl)
theorem dX4_lineOf_26 : decode cX4_lineOf 26 = .ok (.iload_n 1, 1) := dk_27 (dk_at dksX4_lineOf_1 2 rfl rfl)
theorem dX4_lineOf_27 : decode cX4_lineOf 27 = .ok (.if_icmp .ne 13, 3) := dk_160 0 13 (dk_at dksX4_lineOf_1 3 rfl rfl)
theorem dX4_lineOf_30 : decode cX4_lineOf 30 = .ok (.iload_n 3, 1) := dk_29 (dk_at dksX4_lineOf_1 6 rfl rfl)
theorem dX4_lineOf_31 : decode cX4_lineOf 31 = .ok (.ifCond .ne 6, 3) := dk_154 0 6 (dk_at dksX4_lineOf_1 7 rfl rfl)
theorem dX4_lineOf_34 : decode cX4_lineOf 34 = .ok (.iload 4, 2) := dk_21 4 (dk_at dksX4_lineOf_1 10 rfl rfl)
theorem dX4_lineOf_36 : decode cX4_lineOf 36 = .ok (.ireturn, 1) := dk_172 (dk_at dksX4_lineOf_1 12 rfl rfl)
theorem dX4_lineOf_37 : decode cX4_lineOf 37 = .ok (.iinc 3 (-1), 3) := dk_132 3 255 (dk_at dksX4_lineOf_1 13 rfl rfl)
theorem dX4_lineOf_40 : decode cX4_lineOf 40 = .ok (.iinc 4 1, 3) := dk_132 4 1 (dk_at dksX4_lineOf_1 16 rfl rfl)
theorem dX4_lineOf_43 : decode cX4_lineOf 43 = .ok (.goto (-38), 3) := dk_167 255 218 (dk_at dksX4_lineOf_1 19 rfl rfl)
theorem dX4_lineOf_46 : decode cX4_lineOf 46 = .ok (.iconst (-1), 1) := dk_2 (dk_at dksX4_lineOf_1 22 rfl rfl)
theorem dX4_lineOf_47 : decode cX4_lineOf 47 = .ok (.ireturn, 1) := dk_172 (dk_at dksX4_lineOf_1 23 rfl rfl)
abbrev cX4_isMatch : ByteArray := prog_17_method_26_code
def yX4_isMatch : MethodName := ⟨RX4, "isMatch", "(II)Z"⟩
def dkwX4_isMatch_4 : List UInt8 := [172]
abbrev dktX4_isMatch_4 : List UInt8 := dkwX4_isMatch_4 ++ []
def dkwX4_isMatch_3 : List UInt8 := [28, 21, 5, 182, 0, 108, 160, 0, 7, 4, 167, 0, 4, 3, 54, 4, 132, 5, 1, 167, 255, 185, 21, 4]
abbrev dktX4_isMatch_3 : List UInt8 := dkwX4_isMatch_3 ++ dktX4_isMatch_4
def dkwX4_isMatch_2 : List UInt8 := [160, 0, 16, 42, 29, 21, 5, 28, 21, 5, 182, 0, 100, 167, 0, 25, 21, 6, 153, 0, 15, 21, 6, 42]
abbrev dktX4_isMatch_2 : List UInt8 := dkwX4_isMatch_2 ++ dktX4_isMatch_3
def dkwX4_isMatch_1 : List UInt8 := [28, 46, 162, 0, 66, 21, 4, 153, 0, 61, 42, 27, 21, 5, 182, 0, 97, 54, 6, 21, 6, 2]
abbrev dktX4_isMatch_1 : List UInt8 := dkwX4_isMatch_1 ++ dktX4_isMatch_2
def dkwX4_isMatch_0 : List UInt8 := [42, 27, 3, 182, 0, 88, 62, 42, 29, 28, 182, 0, 104, 54, 4, 3, 54, 5, 21, 5, 42, 180, 0, 22]
abbrev dktX4_isMatch_0 : List UInt8 := dkwX4_isMatch_0 ++ dktX4_isMatch_1
theorem dksX4_isMatch_0 : cX4_isMatch.data.toList.drop 0 = dktX4_isMatch_0 := by decide +kernel
theorem dksX4_isMatch_1 : cX4_isMatch.data.toList.drop 24 = dktX4_isMatch_1 := dk_seg dksX4_isMatch_0 24 rfl rfl
theorem dksX4_isMatch_2 : cX4_isMatch.data.toList.drop 46 = dktX4_isMatch_2 := dk_seg dksX4_isMatch_1 22 rfl rfl
theorem dksX4_isMatch_3 : cX4_isMatch.data.toList.drop 70 = dktX4_isMatch_3 := dk_seg dksX4_isMatch_2 24 rfl rfl
theorem dksX4_isMatch_4 : cX4_isMatch.data.toList.drop 94 = dktX4_isMatch_4 := dk_seg dksX4_isMatch_3 24 rfl rfl
theorem dX4_isMatch_0 : decode cX4_isMatch 0 = .ok (.aload_n 0, 1) := dk_42 (dk_at dksX4_isMatch_0 0 rfl rfl)
theorem dX4_isMatch_1 : decode cX4_isMatch 1 = .ok (.iload_n 1, 1) := dk_27 (dk_at dksX4_isMatch_0 1 rfl rfl)
theorem dX4_isMatch_2 : decode cX4_isMatch 2 = .ok (.iconst 0, 1) := dk_3 (dk_at dksX4_isMatch_0 2 rfl rfl)
theorem dX4_isMatch_3 : decode cX4_isMatch 3 = .ok (.invokevirtual 88, 3) := dk_182 0 88 (dk_at dksX4_isMatch_0 3 rfl rfl)
theorem dX4_isMatch_6 : decode cX4_isMatch 6 = .ok (.istore_n 3, 1) := dk_62 (dk_at dksX4_isMatch_0 6 rfl rfl)
theorem dX4_isMatch_7 : decode cX4_isMatch 7 = .ok (.aload_n 0, 1) := dk_42 (dk_at dksX4_isMatch_0 7 rfl rfl)
theorem dX4_isMatch_8 : decode cX4_isMatch 8 = .ok (.iload_n 3, 1) := dk_29 (dk_at dksX4_isMatch_0 8 rfl rfl)
theorem dX4_isMatch_9 : decode cX4_isMatch 9 = .ok (.iload_n 2, 1) := dk_28 (dk_at dksX4_isMatch_0 9 rfl rfl)
theorem dX4_isMatch_10 : decode cX4_isMatch 10 = .ok (.invokevirtual 104, 3) := dk_182 0 104 (dk_at dksX4_isMatch_0 10 rfl rfl)
theorem dX4_isMatch_13 : decode cX4_isMatch 13 = .ok (.istore 4, 2) := dk_54 4 (dk_at dksX4_isMatch_0 13 rfl rfl)
theorem dX4_isMatch_15 : decode cX4_isMatch 15 = .ok (.iconst 0, 1) := dk_3 (dk_at dksX4_isMatch_0 15 rfl rfl)
theorem dX4_isMatch_16 : decode cX4_isMatch 16 = .ok (.istore 5, 2) := dk_54 5 (dk_at dksX4_isMatch_0 16 rfl rfl)
theorem dX4_isMatch_18 : decode cX4_isMatch 18 = .ok (.iload 5, 2) := dk_21 5 (dk_at dksX4_isMatch_0 18 rfl rfl)
theorem dX4_isMatch_20 : decode cX4_isMatch 20 = .ok (.aload_n 0, 1) := dk_42 (dk_at dksX4_isMatch_0 20 rfl rfl)
theorem dX4_isMatch_21 : decode cX4_isMatch 21 = .ok (.getfield 22, 3) := dk_180 0 22 (dk_at dksX4_isMatch_0 21 rfl rfl)
theorem dX4_isMatch_24 : decode cX4_isMatch 24 = .ok (.iload_n 2, 1) := dk_28 (dk_at dksX4_isMatch_1 0 rfl rfl)
theorem dX4_isMatch_25 : decode cX4_isMatch 25 = .ok (.iaload, 1) := dk_46 (dk_at dksX4_isMatch_1 1 rfl rfl)
theorem dX4_isMatch_26 : decode cX4_isMatch 26 = .ok (.if_icmp .ge 66, 3) := dk_162 0 66 (dk_at dksX4_isMatch_1 2 rfl rfl)
theorem dX4_isMatch_29 : decode cX4_isMatch 29 = .ok (.iload 4, 2) := dk_21 4 (dk_at dksX4_isMatch_1 5 rfl rfl)
theorem dX4_isMatch_31 : decode cX4_isMatch 31 = .ok (.ifCond .eq 61, 3) := dk_153 0 61 (dk_at dksX4_isMatch_1 7 rfl rfl)
theorem dX4_isMatch_34 : decode cX4_isMatch 34 = .ok (.aload_n 0, 1) := dk_42 (dk_at dksX4_isMatch_1 10 rfl rfl)
theorem dX4_isMatch_35 : decode cX4_isMatch 35 = .ok (.iload_n 1, 1) := dk_27 (dk_at dksX4_isMatch_1 11 rfl rfl)
theorem dX4_isMatch_36 : decode cX4_isMatch 36 = .ok (.iload 5, 2) := dk_21 5 (dk_at dksX4_isMatch_1 12 rfl rfl)
theorem dX4_isMatch_38 : decode cX4_isMatch 38 = .ok (.invokevirtual 97, 3) := dk_182 0 97 (dk_at dksX4_isMatch_1 14 rfl rfl)
theorem dX4_isMatch_41 : decode cX4_isMatch 41 = .ok (.istore 6, 2) := dk_54 6 (dk_at dksX4_isMatch_1 17 rfl rfl)
theorem dX4_isMatch_43 : decode cX4_isMatch 43 = .ok (.iload 6, 2) := dk_21 6 (dk_at dksX4_isMatch_1 19 rfl rfl)
theorem dX4_isMatch_45 : decode cX4_isMatch 45 = .ok (.iconst (-1), 1) := dk_2 (dk_at dksX4_isMatch_1 21 rfl rfl)
theorem dX4_isMatch_46 : decode cX4_isMatch 46 = .ok (.if_icmp .ne 16, 3) := dk_160 0 16 (dk_at dksX4_isMatch_2 0 rfl rfl)
theorem dX4_isMatch_49 : decode cX4_isMatch 49 = .ok (.aload_n 0, 1) := dk_42 (dk_at dksX4_isMatch_2 3 rfl rfl)
theorem dX4_isMatch_50 : decode cX4_isMatch 50 = .ok (.iload_n 3, 1) := dk_29 (dk_at dksX4_isMatch_2 4 rfl rfl)
theorem dX4_isMatch_51 : decode cX4_isMatch 51 = .ok (.iload 5, 2) := dk_21 5 (dk_at dksX4_isMatch_2 5 rfl rfl)
theorem dX4_isMatch_53 : decode cX4_isMatch 53 = .ok (.iload_n 2, 1) := dk_28 (dk_at dksX4_isMatch_2 7 rfl rfl)
theorem dX4_isMatch_54 : decode cX4_isMatch 54 = .ok (.iload 5, 2) := dk_21 5 (dk_at dksX4_isMatch_2 8 rfl rfl)
theorem dX4_isMatch_56 : decode cX4_isMatch 56 = .ok (.invokevirtual 100, 3) := dk_182 0 100 (dk_at dksX4_isMatch_2 10 rfl rfl)
theorem dX4_isMatch_59 : decode cX4_isMatch 59 = .ok (.goto 25, 3) := dk_167 0 25 (dk_at dksX4_isMatch_2 13 rfl rfl)
theorem dX4_isMatch_62 : decode cX4_isMatch 62 = .ok (.iload 6, 2) := dk_21 6 (dk_at dksX4_isMatch_2 16 rfl rfl)
theorem dX4_isMatch_64 : decode cX4_isMatch 64 = .ok (.ifCond .eq 15, 3) := dk_153 0 15 (dk_at dksX4_isMatch_2 18 rfl rfl)
theorem dX4_isMatch_67 : decode cX4_isMatch 67 = .ok (.iload 6, 2) := dk_21 6 (dk_at dksX4_isMatch_2 21 rfl rfl)
theorem dX4_isMatch_69 : decode cX4_isMatch 69 = .ok (.aload_n 0, 1) := dk_42 (dk_at dksX4_isMatch_2 23 rfl rfl)
theorem dX4_isMatch_70 : decode cX4_isMatch 70 = .ok (.iload_n 2, 1) := dk_28 (dk_at dksX4_isMatch_3 0 rfl rfl)
theorem dX4_isMatch_71 : decode cX4_isMatch 71 = .ok (.iload 5, 2) := dk_21 5 (dk_at dksX4_isMatch_3 1 rfl rfl)
theorem dX4_isMatch_73 : decode cX4_isMatch 73 = .ok (.invokevirtual 108, 3) := dk_182 0 108 (dk_at dksX4_isMatch_3 3 rfl rfl)
theorem dX4_isMatch_76 : decode cX4_isMatch 76 = .ok (.if_icmp .ne 7, 3) := dk_160 0 7 (dk_at dksX4_isMatch_3 6 rfl rfl)
theorem dX4_isMatch_79 : decode cX4_isMatch 79 = .ok (.iconst 1, 1) := dk_4 (dk_at dksX4_isMatch_3 9 rfl rfl)
theorem dX4_isMatch_80 : decode cX4_isMatch 80 = .ok (.goto 4, 3) := dk_167 0 4 (dk_at dksX4_isMatch_3 10 rfl rfl)
theorem dX4_isMatch_83 : decode cX4_isMatch 83 = .ok (.iconst 0, 1) := dk_3 (dk_at dksX4_isMatch_3 13 rfl rfl)
theorem dX4_isMatch_84 : decode cX4_isMatch 84 = .ok (.istore 4, 2) := dk_54 4 (dk_at dksX4_isMatch_3 14 rfl rfl)
theorem dX4_isMatch_86 : decode cX4_isMatch 86 = .ok (.iinc 5 1, 3) := dk_132 5 1 (dk_at dksX4_isMatch_3 16 rfl rfl)
theorem dX4_isMatch_89 : decode cX4_isMatch 89 = .ok (.goto (-71), 3) := dk_167 255 185 (dk_at dksX4_isMatch_3 19 rfl rfl)
theorem dX4_isMatch_92 : decode cX4_isMatch 92 = .ok (.iload 4, 2) := dk_21 4 (dk_at dksX4_isMatch_3 22 rfl rfl)
theorem dX4_isMatch_94 : decode cX4_isMatch 94 = .ok (.ireturn, 1) := dk_172 (dk_at dksX4_isMatch_4 0 rfl rfl)
abbrev cX4_isForm : ByteArray := prog_17_method_24_code
def yX4_isForm : MethodName := ⟨RX4, "isForm", "(II)Z"⟩
def dkwX4_isForm_2 : List UInt8 := [21, 4, 182, 0, 94, 160, 0, 7, 4, 167, 0, 4, 3, 62, 132, 4, 1, 167, 255, 215, 29, 172]
abbrev dktX4_isForm_2 : List UInt8 := dkwX4_isForm_2 ++ []
def dkwX4_isForm_1 : List UInt8 := [21, 4, 42, 180, 0, 22, 27, 46, 163, 0, 36, 29, 153, 0, 32, 42, 27, 21, 4, 182, 0, 94, 42, 28]
abbrev dktX4_isForm_1 : List UInt8 := dkwX4_isForm_1 ++ dktX4_isForm_2
def dkwX4_isForm_0 : List UInt8 := [42, 180, 0, 22, 27, 46, 42, 180, 0, 22, 28, 46, 160, 0, 7, 4, 167, 0, 4, 3, 62, 3, 54, 4]
abbrev dktX4_isForm_0 : List UInt8 := dkwX4_isForm_0 ++ dktX4_isForm_1
theorem dksX4_isForm_0 : cX4_isForm.data.toList.drop 0 = dktX4_isForm_0 := by decide +kernel
theorem dksX4_isForm_1 : cX4_isForm.data.toList.drop 24 = dktX4_isForm_1 := dk_seg dksX4_isForm_0 24 rfl rfl
theorem dksX4_isForm_2 : cX4_isForm.data.toList.drop 48 = dktX4_isForm_2 := dk_seg dksX4_isForm_1 24 rfl rfl
theorem dX4_isForm_0 : decode cX4_isForm 0 = .ok (.aload_n 0, 1) := dk_42 (dk_at dksX4_isForm_0 0 rfl rfl)
theorem dX4_isForm_1 : decode cX4_isForm 1 = .ok (.getfield 22, 3) := dk_180 0 22 (dk_at dksX4_isForm_0 1 rfl rfl)
theorem dX4_isForm_4 : decode cX4_isForm 4 = .ok (.iload_n 1, 1) := dk_27 (dk_at dksX4_isForm_0 4 rfl rfl)
theorem dX4_isForm_5 : decode cX4_isForm 5 = .ok (.iaload, 1) := dk_46 (dk_at dksX4_isForm_0 5 rfl rfl)
theorem dX4_isForm_6 : decode cX4_isForm 6 = .ok (.aload_n 0, 1) := dk_42 (dk_at dksX4_isForm_0 6 rfl rfl)
theorem dX4_isForm_7 : decode cX4_isForm 7 = .ok (.getfield 22, 3) := dk_180 0 22 (dk_at dksX4_isForm_0 7 rfl rfl)
theorem dX4_isForm_10 : decode cX4_isForm 10 = .ok (.iload_n 2, 1) := dk_28 (dk_at dksX4_isForm_0 10 rfl rfl)
theorem dX4_isForm_11 : decode cX4_isForm 11 = .ok (.iaload, 1) := dk_46 (dk_at dksX4_isForm_0 11 rfl rfl)
theorem dX4_isForm_12 : decode cX4_isForm 12 = .ok (.if_icmp .ne 7, 3) := dk_160 0 7 (dk_at dksX4_isForm_0 12 rfl rfl)
theorem dX4_isForm_15 : decode cX4_isForm 15 = .ok (.iconst 1, 1) := dk_4 (dk_at dksX4_isForm_0 15 rfl rfl)
theorem dX4_isForm_16 : decode cX4_isForm 16 = .ok (.goto 4, 3) := dk_167 0 4 (dk_at dksX4_isForm_0 16 rfl rfl)
theorem dX4_isForm_19 : decode cX4_isForm 19 = .ok (.iconst 0, 1) := dk_3 (dk_at dksX4_isForm_0 19 rfl rfl)
theorem dX4_isForm_20 : decode cX4_isForm 20 = .ok (.istore_n 3, 1) := dk_62 (dk_at dksX4_isForm_0 20 rfl rfl)
theorem dX4_isForm_21 : decode cX4_isForm 21 = .ok (.iconst 0, 1) := dk_3 (dk_at dksX4_isForm_0 21 rfl rfl)
theorem dX4_isForm_22 : decode cX4_isForm 22 = .ok (.istore 4, 2) := dk_54 4 (dk_at dksX4_isForm_0 22 rfl rfl)
theorem dX4_isForm_24 : decode cX4_isForm 24 = .ok (.iload 4, 2) := dk_21 4 (dk_at dksX4_isForm_1 0 rfl rfl)
theorem dX4_isForm_26 : decode cX4_isForm 26 = .ok (.aload_n 0, 1) := dk_42 (dk_at dksX4_isForm_1 2 rfl rfl)
theorem dX4_isForm_27 : decode cX4_isForm 27 = .ok (.getfield 22, 3) := dk_180 0 22 (dk_at dksX4_isForm_1 3 rfl rfl)
theorem dX4_isForm_30 : decode cX4_isForm 30 = .ok (.iload_n 1, 1) := dk_27 (dk_at dksX4_isForm_1 6 rfl rfl)
theorem dX4_isForm_31 : decode cX4_isForm 31 = .ok (.iaload, 1) := dk_46 (dk_at dksX4_isForm_1 7 rfl rfl)
theorem dX4_isForm_32 : decode cX4_isForm 32 = .ok (.if_icmp .gt 36, 3) := dk_163 0 36 (dk_at dksX4_isForm_1 8 rfl rfl)
theorem dX4_isForm_35 : decode cX4_isForm 35 = .ok (.iload_n 3, 1) := dk_29 (dk_at dksX4_isForm_1 11 rfl rfl)
theorem dX4_isForm_36 : decode cX4_isForm 36 = .ok (.ifCond .eq 32, 3) := dk_153 0 32 (dk_at dksX4_isForm_1 12 rfl rfl)
theorem dX4_isForm_39 : decode cX4_isForm 39 = .ok (.aload_n 0, 1) := dk_42 (dk_at dksX4_isForm_1 15 rfl rfl)
theorem dX4_isForm_40 : decode cX4_isForm 40 = .ok (.iload_n 1, 1) := dk_27 (dk_at dksX4_isForm_1 16 rfl rfl)
theorem dX4_isForm_41 : decode cX4_isForm 41 = .ok (.iload 4, 2) := dk_21 4 (dk_at dksX4_isForm_1 17 rfl rfl)
theorem dX4_isForm_43 : decode cX4_isForm 43 = .ok (.invokevirtual 94, 3) := dk_182 0 94 (dk_at dksX4_isForm_1 19 rfl rfl)
theorem dX4_isForm_46 : decode cX4_isForm 46 = .ok (.aload_n 0, 1) := dk_42 (dk_at dksX4_isForm_1 22 rfl rfl)
theorem dX4_isForm_47 : decode cX4_isForm 47 = .ok (.iload_n 2, 1) := dk_28 (dk_at dksX4_isForm_1 23 rfl rfl)
theorem dX4_isForm_48 : decode cX4_isForm 48 = .ok (.iload 4, 2) := dk_21 4 (dk_at dksX4_isForm_2 0 rfl rfl)
theorem dX4_isForm_50 : decode cX4_isForm 50 = .ok (.invokevirtual 94, 3) := dk_182 0 94 (dk_at dksX4_isForm_2 2 rfl rfl)
theorem dX4_isForm_53 : decode cX4_isForm 53 = .ok (.if_icmp .ne 7, 3) := dk_160 0 7 (dk_at dksX4_isForm_2 5 rfl rfl)
theorem dX4_isForm_56 : decode cX4_isForm 56 = .ok (.iconst 1, 1) := dk_4 (dk_at dksX4_isForm_2 8 rfl rfl)
theorem dX4_isForm_57 : decode cX4_isForm 57 = .ok (.goto 4, 3) := dk_167 0 4 (dk_at dksX4_isForm_2 9 rfl rfl)
theorem dX4_isForm_60 : decode cX4_isForm 60 = .ok (.iconst 0, 1) := dk_3 (dk_at dksX4_isForm_2 12 rfl rfl)
theorem dX4_isForm_61 : decode cX4_isForm 61 = .ok (.istore_n 3, 1) := dk_62 (dk_at dksX4_isForm_2 13 rfl rfl)
theorem dX4_isForm_62 : decode cX4_isForm 62 = .ok (.iinc 4 1, 3) := dk_132 4 1 (dk_at dksX4_isForm_2 14 rfl rfl)
theorem dX4_isForm_65 : decode cX4_isForm 65 = .ok (.goto (-41), 3) := dk_167 255 215 (dk_at dksX4_isForm_2 17 rfl rfl)
theorem dX4_isForm_68 : decode cX4_isForm 68 = .ok (.iload_n 3, 1) := dk_29 (dk_at dksX4_isForm_2 20 rfl rfl)
theorem dX4_isForm_69 : decode cX4_isForm 69 = .ok (.ireturn, 1) := dk_172 (dk_at dksX4_isForm_2 21 rfl rfl)
abbrev cX4_gap : ByteArray := prog_17_method_13_code
def yX4_gap : MethodName := ⟨RX4, "gap", "(II)I"⟩
def dkwX4_gap_1 : List UInt8 := [160, 0, 11, 42, 27, 182, 0, 63, 167, 0, 9, 42, 27, 28, 182, 0, 78, 29, 100, 172]
abbrev dktX4_gap_1 : List UInt8 := dkwX4_gap_1 ++ []
def dkwX4_gap_0 : List UInt8 := [28, 154, 0, 7, 3, 167, 0, 11, 42, 27, 28, 4, 100, 182, 0, 75, 62, 28, 42, 180, 0, 22, 27, 46]
abbrev dktX4_gap_0 : List UInt8 := dkwX4_gap_0 ++ dktX4_gap_1
theorem dksX4_gap_0 : cX4_gap.data.toList.drop 0 = dktX4_gap_0 := by decide +kernel
theorem dksX4_gap_1 : cX4_gap.data.toList.drop 24 = dktX4_gap_1 := dk_seg dksX4_gap_0 24 rfl rfl
theorem dX4_gap_0 : decode cX4_gap 0 = .ok (.iload_n 2, 1) := dk_28 (dk_at dksX4_gap_0 0 rfl rfl)
theorem dX4_gap_1 : decode cX4_gap 1 = .ok (.ifCond .ne 7, 3) := dk_154 0 7 (dk_at dksX4_gap_0 1 rfl rfl)
theorem dX4_gap_4 : decode cX4_gap 4 = .ok (.iconst 0, 1) := dk_3 (dk_at dksX4_gap_0 4 rfl rfl)
theorem dX4_gap_5 : decode cX4_gap 5 = .ok (.goto 11, 3) := dk_167 0 11 (dk_at dksX4_gap_0 5 rfl rfl)
theorem dX4_gap_8 : decode cX4_gap 8 = .ok (.aload_n 0, 1) := dk_42 (dk_at dksX4_gap_0 8 rfl rfl)
theorem dX4_gap_9 : decode cX4_gap 9 = .ok (.iload_n 1, 1) := dk_27 (dk_at dksX4_gap_0 9 rfl rfl)
theorem dX4_gap_10 : decode cX4_gap 10 = .ok (.iload_n 2, 1) := dk_28 (dk_at dksX4_gap_0 10 rfl rfl)
theorem dX4_gap_11 : decode cX4_gap 11 = .ok (.iconst 1, 1) := dk_4 (dk_at dksX4_gap_0 11 rfl rfl)
theorem dX4_gap_12 : decode cX4_gap 12 = .ok (.isub, 1) := dk_100 (dk_at dksX4_gap_0 12 rfl rfl)
theorem dX4_gap_13 : decode cX4_gap 13 = .ok (.invokevirtual 75, 3) := dk_182 0 75 (dk_at dksX4_gap_0 13 rfl rfl)
theorem dX4_gap_16 : decode cX4_gap 16 = .ok (.istore_n 3, 1) := dk_62 (dk_at dksX4_gap_0 16 rfl rfl)
theorem dX4_gap_17 : decode cX4_gap 17 = .ok (.iload_n 2, 1) := dk_28 (dk_at dksX4_gap_0 17 rfl rfl)
theorem dX4_gap_18 : decode cX4_gap 18 = .ok (.aload_n 0, 1) := dk_42 (dk_at dksX4_gap_0 18 rfl rfl)
theorem dX4_gap_19 : decode cX4_gap 19 = .ok (.getfield 22, 3) := dk_180 0 22 (dk_at dksX4_gap_0 19 rfl rfl)
theorem dX4_gap_22 : decode cX4_gap 22 = .ok (.iload_n 1, 1) := dk_27 (dk_at dksX4_gap_0 22 rfl rfl)
theorem dX4_gap_23 : decode cX4_gap 23 = .ok (.iaload, 1) := dk_46 (dk_at dksX4_gap_0 23 rfl rfl)
theorem dX4_gap_24 : decode cX4_gap 24 = .ok (.if_icmp .ne 11, 3) := dk_160 0 11 (dk_at dksX4_gap_1 0 rfl rfl)
theorem dX4_gap_27 : decode cX4_gap 27 = .ok (.aload_n 0, 1) := dk_42 (dk_at dksX4_gap_1 3 rfl rfl)
theorem dX4_gap_28 : decode cX4_gap 28 = .ok (.iload_n 1, 1) := dk_27 (dk_at dksX4_gap_1 4 rfl rfl)
theorem dX4_gap_29 : decode cX4_gap 29 = .ok (.invokevirtual 63, 3) := dk_182 0 63 (dk_at dksX4_gap_1 5 rfl rfl)
theorem dX4_gap_32 : decode cX4_gap 32 = .ok (.goto 9, 3) := dk_167 0 9 (dk_at dksX4_gap_1 8 rfl rfl)
theorem dX4_gap_35 : decode cX4_gap 35 = .ok (.aload_n 0, 1) := dk_42 (dk_at dksX4_gap_1 11 rfl rfl)
theorem dX4_gap_36 : decode cX4_gap 36 = .ok (.iload_n 1, 1) := dk_27 (dk_at dksX4_gap_1 12 rfl rfl)
theorem dX4_gap_37 : decode cX4_gap 37 = .ok (.iload_n 2, 1) := dk_28 (dk_at dksX4_gap_1 13 rfl rfl)
theorem dX4_gap_38 : decode cX4_gap 38 = .ok (.invokevirtual 78, 3) := dk_182 0 78 (dk_at dksX4_gap_1 14 rfl rfl)
theorem dX4_gap_41 : decode cX4_gap 41 = .ok (.iload_n 3, 1) := dk_29 (dk_at dksX4_gap_1 17 rfl rfl)
theorem dX4_gap_42 : decode cX4_gap 42 = .ok (.isub, 1) := dk_100 (dk_at dksX4_gap_1 18 rfl rfl)
theorem dX4_gap_43 : decode cX4_gap 43 = .ok (.ireturn, 1) := dk_172 (dk_at dksX4_gap_1 19 rfl rfl)
abbrev cX4_toOf : ByteArray := prog_17_method_11_code
def yX4_toOf : MethodName := ⟨RX4, "toOf", "(II)I"⟩
def dkwX4_toOf_0 : List UInt8 := [42, 180, 0, 28, 16, 20, 27, 104, 28, 96, 46, 172]
abbrev dktX4_toOf_0 : List UInt8 := dkwX4_toOf_0 ++ []
theorem dksX4_toOf_0 : cX4_toOf.data.toList.drop 0 = dktX4_toOf_0 := by decide +kernel
theorem dX4_toOf_0 : decode cX4_toOf 0 = .ok (.aload_n 0, 1) := dk_42 (dk_at dksX4_toOf_0 0 rfl rfl)
theorem dX4_toOf_1 : decode cX4_toOf 1 = .ok (.getfield 28, 3) := dk_180 0 28 (dk_at dksX4_toOf_0 1 rfl rfl)
theorem dX4_toOf_4 : decode cX4_toOf 4 = .ok (.bipush 20, 2) := dk_16 20 (dk_at dksX4_toOf_0 4 rfl rfl)
theorem dX4_toOf_6 : decode cX4_toOf 6 = .ok (.iload_n 1, 1) := dk_27 (dk_at dksX4_toOf_0 6 rfl rfl)
theorem dX4_toOf_7 : decode cX4_toOf 7 = .ok (.imul, 1) := dk_104 (dk_at dksX4_toOf_0 7 rfl rfl)
theorem dX4_toOf_8 : decode cX4_toOf 8 = .ok (.iload_n 2, 1) := dk_28 (dk_at dksX4_toOf_0 8 rfl rfl)
theorem dX4_toOf_9 : decode cX4_toOf 9 = .ok (.iadd, 1) := dk_96 (dk_at dksX4_toOf_0 9 rfl rfl)
theorem dX4_toOf_10 : decode cX4_toOf 10 = .ok (.iaload, 1) := dk_46 (dk_at dksX4_toOf_0 10 rfl rfl)
theorem dX4_toOf_11 : decode cX4_toOf 11 = .ok (.ireturn, 1) := dk_172 (dk_at dksX4_toOf_0 11 rfl rfl)
abbrev cX4_fromOf : ByteArray := prog_17_method_10_code
def yX4_fromOf : MethodName := ⟨RX4, "fromOf", "(II)I"⟩
def dkwX4_fromOf_0 : List UInt8 := [42, 180, 0, 25, 16, 20, 27, 104, 28, 96, 46, 172]
abbrev dktX4_fromOf_0 : List UInt8 := dkwX4_fromOf_0 ++ []
theorem dksX4_fromOf_0 : cX4_fromOf.data.toList.drop 0 = dktX4_fromOf_0 := by decide +kernel
theorem dX4_fromOf_0 : decode cX4_fromOf 0 = .ok (.aload_n 0, 1) := dk_42 (dk_at dksX4_fromOf_0 0 rfl rfl)
theorem dX4_fromOf_1 : decode cX4_fromOf 1 = .ok (.getfield 25, 3) := dk_180 0 25 (dk_at dksX4_fromOf_0 1 rfl rfl)
theorem dX4_fromOf_4 : decode cX4_fromOf 4 = .ok (.bipush 20, 2) := dk_16 20 (dk_at dksX4_fromOf_0 4 rfl rfl)
theorem dX4_fromOf_6 : decode cX4_fromOf 6 = .ok (.iload_n 1, 1) := dk_27 (dk_at dksX4_fromOf_0 6 rfl rfl)
theorem dX4_fromOf_7 : decode cX4_fromOf 7 = .ok (.imul, 1) := dk_104 (dk_at dksX4_fromOf_0 7 rfl rfl)
theorem dX4_fromOf_8 : decode cX4_fromOf 8 = .ok (.iload_n 2, 1) := dk_28 (dk_at dksX4_fromOf_0 8 rfl rfl)
theorem dX4_fromOf_9 : decode cX4_fromOf 9 = .ok (.iadd, 1) := dk_96 (dk_at dksX4_fromOf_0 9 rfl rfl)
theorem dX4_fromOf_10 : decode cX4_fromOf 10 = .ok (.iaload, 1) := dk_46 (dk_at dksX4_fromOf_0 10 rfl rfl)
theorem dX4_fromOf_11 : decode cX4_fromOf 11 = .ok (.ireturn, 1) := dk_172 (dk_at dksX4_fromOf_0 11 rfl rfl)
abbrev cX4_slotOf : ByteArray := prog_17_method_23_code
def yX4_slotOf : MethodName := ⟨RX4, "slotOf", "(II)I"⟩
def dkwX4_slotOf_0 : List UInt8 := [42, 180, 0, 9, 17, 6, 188, 16, 20, 27, 104, 96, 28, 96, 46, 172]
abbrev dktX4_slotOf_0 : List UInt8 := dkwX4_slotOf_0 ++ []
theorem dksX4_slotOf_0 : cX4_slotOf.data.toList.drop 0 = dktX4_slotOf_0 := by decide +kernel
theorem dX4_slotOf_0 : decode cX4_slotOf 0 = .ok (.aload_n 0, 1) := dk_42 (dk_at dksX4_slotOf_0 0 rfl rfl)
theorem dX4_slotOf_1 : decode cX4_slotOf 1 = .ok (.getfield 9, 3) := dk_180 0 9 (dk_at dksX4_slotOf_0 1 rfl rfl)
theorem dX4_slotOf_4 : decode cX4_slotOf 4 = .ok (.sipush 1724, 3) := dk_17 6 188 (dk_at dksX4_slotOf_0 4 rfl rfl)
theorem dX4_slotOf_7 : decode cX4_slotOf 7 = .ok (.bipush 20, 2) := dk_16 20 (dk_at dksX4_slotOf_0 7 rfl rfl)
theorem dX4_slotOf_9 : decode cX4_slotOf 9 = .ok (.iload_n 1, 1) := dk_27 (dk_at dksX4_slotOf_0 9 rfl rfl)
theorem dX4_slotOf_10 : decode cX4_slotOf 10 = .ok (.imul, 1) := dk_104 (dk_at dksX4_slotOf_0 10 rfl rfl)
theorem dX4_slotOf_11 : decode cX4_slotOf 11 = .ok (.iadd, 1) := dk_96 (dk_at dksX4_slotOf_0 11 rfl rfl)
theorem dX4_slotOf_12 : decode cX4_slotOf 12 = .ok (.iload_n 2, 1) := dk_28 (dk_at dksX4_slotOf_0 12 rfl rfl)
theorem dX4_slotOf_13 : decode cX4_slotOf 13 = .ok (.iadd, 1) := dk_96 (dk_at dksX4_slotOf_0 13 rfl rfl)
theorem dX4_slotOf_14 : decode cX4_slotOf 14 = .ok (.iaload, 1) := dk_46 (dk_at dksX4_slotOf_0 14 rfl rfl)
theorem dX4_slotOf_15 : decode cX4_slotOf 15 = .ok (.ireturn, 1) := dk_172 (dk_at dksX4_slotOf_0 15 rfl rfl)
abbrev cX4_isSame : ByteArray := prog_17_method_14_code
def yX4_isSame : MethodName := ⟨RX4, "isSame", "(IIII)Z"⟩
def dkwX4_isSame_3 : List UInt8 := [160, 0, 7, 4, 167, 0, 4, 3, 54, 5, 132, 6, 1, 167, 255, 198, 21, 5, 172]
abbrev dktX4_isSame_3 : List UInt8 := dkwX4_isSame_3 ++ []
def dkwX4_isSame_2 : List UInt8 := [182, 0, 78, 21, 6, 96, 182, 0, 67, 42, 29, 42, 29, 21, 4, 182, 0, 78, 21, 6, 96, 182, 0, 67]
abbrev dktX4_isSame_2 : List UInt8 := dkwX4_isSame_2 ++ dktX4_isSame_3
def dkwX4_isSame_1 : List UInt8 := [54, 6, 21, 6, 42, 27, 28, 182, 0, 81, 162, 0, 53, 21, 5, 153, 0, 48, 42, 27, 42, 27, 28]
abbrev dktX4_isSame_1 : List UInt8 := dkwX4_isSame_1 ++ dktX4_isSame_2
def dkwX4_isSame_0 : List UInt8 := [42, 27, 28, 182, 0, 81, 42, 29, 21, 4, 182, 0, 81, 160, 0, 7, 4, 167, 0, 4, 3, 54, 5, 3]
abbrev dktX4_isSame_0 : List UInt8 := dkwX4_isSame_0 ++ dktX4_isSame_1
theorem dksX4_isSame_0 : cX4_isSame.data.toList.drop 0 = dktX4_isSame_0 := by decide +kernel
theorem dksX4_isSame_1 : cX4_isSame.data.toList.drop 24 = dktX4_isSame_1 := dk_seg dksX4_isSame_0 24 rfl rfl
theorem dksX4_isSame_2 : cX4_isSame.data.toList.drop 47 = dktX4_isSame_2 := dk_seg dksX4_isSame_1 23 rfl rfl
theorem dksX4_isSame_3 : cX4_isSame.data.toList.drop 71 = dktX4_isSame_3 := dk_seg dksX4_isSame_2 24 rfl rfl
theorem dX4_isSame_0 : decode cX4_isSame 0 = .ok (.aload_n 0, 1) := dk_42 (dk_at dksX4_isSame_0 0 rfl rfl)
theorem dX4_isSame_1 : decode cX4_isSame 1 = .ok (.iload_n 1, 1) := dk_27 (dk_at dksX4_isSame_0 1 rfl rfl)
theorem dX4_isSame_2 : decode cX4_isSame 2 = .ok (.iload_n 2, 1) := dk_28 (dk_at dksX4_isSame_0 2 rfl rfl)
theorem dX4_isSame_3 : decode cX4_isSame 3 = .ok (.invokevirtual 81, 3) := dk_182 0 81 (dk_at dksX4_isSame_0 3 rfl rfl)
theorem dX4_isSame_6 : decode cX4_isSame 6 = .ok (.aload_n 0, 1) := dk_42 (dk_at dksX4_isSame_0 6 rfl rfl)
theorem dX4_isSame_7 : decode cX4_isSame 7 = .ok (.iload_n 3, 1) := dk_29 (dk_at dksX4_isSame_0 7 rfl rfl)
theorem dX4_isSame_8 : decode cX4_isSame 8 = .ok (.iload 4, 2) := dk_21 4 (dk_at dksX4_isSame_0 8 rfl rfl)
theorem dX4_isSame_10 : decode cX4_isSame 10 = .ok (.invokevirtual 81, 3) := dk_182 0 81 (dk_at dksX4_isSame_0 10 rfl rfl)
theorem dX4_isSame_13 : decode cX4_isSame 13 = .ok (.if_icmp .ne 7, 3) := dk_160 0 7 (dk_at dksX4_isSame_0 13 rfl rfl)
theorem dX4_isSame_16 : decode cX4_isSame 16 = .ok (.iconst 1, 1) := dk_4 (dk_at dksX4_isSame_0 16 rfl rfl)
theorem dX4_isSame_17 : decode cX4_isSame 17 = .ok (.goto 4, 3) := dk_167 0 4 (dk_at dksX4_isSame_0 17 rfl rfl)
theorem dX4_isSame_20 : decode cX4_isSame 20 = .ok (.iconst 0, 1) := dk_3 (dk_at dksX4_isSame_0 20 rfl rfl)
theorem dX4_isSame_21 : decode cX4_isSame 21 = .ok (.istore 5, 2) := dk_54 5 (dk_at dksX4_isSame_0 21 rfl rfl)
theorem dX4_isSame_23 : decode cX4_isSame 23 = .ok (.iconst 0, 1) := dk_3 (dk_at dksX4_isSame_0 23 rfl rfl)
theorem dX4_isSame_24 : decode cX4_isSame 24 = .ok (.istore 6, 2) := dk_54 6 (dk_at dksX4_isSame_1 0 rfl rfl)
theorem dX4_isSame_26 : decode cX4_isSame 26 = .ok (.iload 6, 2) := dk_21 6 (dk_at dksX4_isSame_1 2 rfl rfl)
theorem dX4_isSame_28 : decode cX4_isSame 28 = .ok (.aload_n 0, 1) := dk_42 (dk_at dksX4_isSame_1 4 rfl rfl)
theorem dX4_isSame_29 : decode cX4_isSame 29 = .ok (.iload_n 1, 1) := dk_27 (dk_at dksX4_isSame_1 5 rfl rfl)
theorem dX4_isSame_30 : decode cX4_isSame 30 = .ok (.iload_n 2, 1) := dk_28 (dk_at dksX4_isSame_1 6 rfl rfl)
theorem dX4_isSame_31 : decode cX4_isSame 31 = .ok (.invokevirtual 81, 3) := dk_182 0 81 (dk_at dksX4_isSame_1 7 rfl rfl)
theorem dX4_isSame_34 : decode cX4_isSame 34 = .ok (.if_icmp .ge 53, 3) := dk_162 0 53 (dk_at dksX4_isSame_1 10 rfl rfl)
theorem dX4_isSame_37 : decode cX4_isSame 37 = .ok (.iload 5, 2) := dk_21 5 (dk_at dksX4_isSame_1 13 rfl rfl)
theorem dX4_isSame_39 : decode cX4_isSame 39 = .ok (.ifCond .eq 48, 3) := dk_153 0 48 (dk_at dksX4_isSame_1 15 rfl rfl)
theorem dX4_isSame_42 : decode cX4_isSame 42 = .ok (.aload_n 0, 1) := dk_42 (dk_at dksX4_isSame_1 18 rfl rfl)
theorem dX4_isSame_43 : decode cX4_isSame 43 = .ok (.iload_n 1, 1) := dk_27 (dk_at dksX4_isSame_1 19 rfl rfl)
theorem dX4_isSame_44 : decode cX4_isSame 44 = .ok (.aload_n 0, 1) := dk_42 (dk_at dksX4_isSame_1 20 rfl rfl)
theorem dX4_isSame_45 : decode cX4_isSame 45 = .ok (.iload_n 1, 1) := dk_27 (dk_at dksX4_isSame_1 21 rfl rfl)
theorem dX4_isSame_46 : decode cX4_isSame 46 = .ok (.iload_n 2, 1) := dk_28 (dk_at dksX4_isSame_1 22 rfl rfl)
theorem dX4_isSame_47 : decode cX4_isSame 47 = .ok (.invokevirtual 78, 3) := dk_182 0 78 (dk_at dksX4_isSame_2 0 rfl rfl)
theorem dX4_isSame_50 : decode cX4_isSame 50 = .ok (.iload 6, 2) := dk_21 6 (dk_at dksX4_isSame_2 3 rfl rfl)
theorem dX4_isSame_52 : decode cX4_isSame 52 = .ok (.iadd, 1) := dk_96 (dk_at dksX4_isSame_2 5 rfl rfl)
theorem dX4_isSame_53 : decode cX4_isSame 53 = .ok (.invokevirtual 67, 3) := dk_182 0 67 (dk_at dksX4_isSame_2 6 rfl rfl)
theorem dX4_isSame_56 : decode cX4_isSame 56 = .ok (.aload_n 0, 1) := dk_42 (dk_at dksX4_isSame_2 9 rfl rfl)
theorem dX4_isSame_57 : decode cX4_isSame 57 = .ok (.iload_n 3, 1) := dk_29 (dk_at dksX4_isSame_2 10 rfl rfl)
theorem dX4_isSame_58 : decode cX4_isSame 58 = .ok (.aload_n 0, 1) := dk_42 (dk_at dksX4_isSame_2 11 rfl rfl)
theorem dX4_isSame_59 : decode cX4_isSame 59 = .ok (.iload_n 3, 1) := dk_29 (dk_at dksX4_isSame_2 12 rfl rfl)
theorem dX4_isSame_60 : decode cX4_isSame 60 = .ok (.iload 4, 2) := dk_21 4 (dk_at dksX4_isSame_2 13 rfl rfl)
theorem dX4_isSame_62 : decode cX4_isSame 62 = .ok (.invokevirtual 78, 3) := dk_182 0 78 (dk_at dksX4_isSame_2 15 rfl rfl)
theorem dX4_isSame_65 : decode cX4_isSame 65 = .ok (.iload 6, 2) := dk_21 6 (dk_at dksX4_isSame_2 18 rfl rfl)
theorem dX4_isSame_67 : decode cX4_isSame 67 = .ok (.iadd, 1) := dk_96 (dk_at dksX4_isSame_2 20 rfl rfl)
theorem dX4_isSame_68 : decode cX4_isSame 68 = .ok (.invokevirtual 67, 3) := dk_182 0 67 (dk_at dksX4_isSame_2 21 rfl rfl)
theorem dX4_isSame_71 : decode cX4_isSame 71 = .ok (.if_icmp .ne 7, 3) := dk_160 0 7 (dk_at dksX4_isSame_3 0 rfl rfl)
theorem dX4_isSame_74 : decode cX4_isSame 74 = .ok (.iconst 1, 1) := dk_4 (dk_at dksX4_isSame_3 3 rfl rfl)
theorem dX4_isSame_75 : decode cX4_isSame 75 = .ok (.goto 4, 3) := dk_167 0 4 (dk_at dksX4_isSame_3 4 rfl rfl)
theorem dX4_isSame_78 : decode cX4_isSame 78 = .ok (.iconst 0, 1) := dk_3 (dk_at dksX4_isSame_3 7 rfl rfl)
theorem dX4_isSame_79 : decode cX4_isSame 79 = .ok (.istore 5, 2) := dk_54 5 (dk_at dksX4_isSame_3 8 rfl rfl)
theorem dX4_isSame_81 : decode cX4_isSame 81 = .ok (.iinc 6 1, 3) := dk_132 6 1 (dk_at dksX4_isSame_3 10 rfl rfl)
theorem dX4_isSame_84 : decode cX4_isSame 84 = .ok (.goto (-58), 3) := dk_167 255 198 (dk_at dksX4_isSame_3 13 rfl rfl)
theorem dX4_isSame_87 : decode cX4_isSame 87 = .ok (.iload 5, 2) := dk_21 5 (dk_at dksX4_isSame_3 16 rfl rfl)
theorem dX4_isSame_89 : decode cX4_isSame 89 = .ok (.ireturn, 1) := dk_172 (dk_at dksX4_isSame_3 18 rfl rfl)
abbrev cX4_wide : ByteArray := prog_17_method_12_code
def yX4_wide : MethodName := ⟨RX4, "wide", "(II)I"⟩
def dkwX4_wide_0 : List UInt8 := [42, 27, 28, 182, 0, 75, 42, 27, 28, 182, 0, 78, 100, 172]
abbrev dktX4_wide_0 : List UInt8 := dkwX4_wide_0 ++ []
theorem dksX4_wide_0 : cX4_wide.data.toList.drop 0 = dktX4_wide_0 := by decide +kernel
theorem dX4_wide_0 : decode cX4_wide 0 = .ok (.aload_n 0, 1) := dk_42 (dk_at dksX4_wide_0 0 rfl rfl)
theorem dX4_wide_1 : decode cX4_wide 1 = .ok (.iload_n 1, 1) := dk_27 (dk_at dksX4_wide_0 1 rfl rfl)
theorem dX4_wide_2 : decode cX4_wide 2 = .ok (.iload_n 2, 1) := dk_28 (dk_at dksX4_wide_0 2 rfl rfl)
theorem dX4_wide_3 : decode cX4_wide 3 = .ok (.invokevirtual 75, 3) := dk_182 0 75 (dk_at dksX4_wide_0 3 rfl rfl)
theorem dX4_wide_6 : decode cX4_wide 6 = .ok (.aload_n 0, 1) := dk_42 (dk_at dksX4_wide_0 6 rfl rfl)
theorem dX4_wide_7 : decode cX4_wide 7 = .ok (.iload_n 1, 1) := dk_27 (dk_at dksX4_wide_0 7 rfl rfl)
theorem dX4_wide_8 : decode cX4_wide 8 = .ok (.iload_n 2, 1) := dk_28 (dk_at dksX4_wide_0 8 rfl rfl)
theorem dX4_wide_9 : decode cX4_wide 9 = .ok (.invokevirtual 78, 3) := dk_182 0 78 (dk_at dksX4_wide_0 9 rfl rfl)
theorem dX4_wide_12 : decode cX4_wide 12 = .ok (.isub, 1) := dk_100 (dk_at dksX4_wide_0 12 rfl rfl)
theorem dX4_wide_13 : decode cX4_wide 13 = .ok (.ireturn, 1) := dk_172 (dk_at dksX4_wide_0 13 rfl rfl)
abbrev cX4_typeOf : ByteArray := prog_17_method_16_code
def yX4_typeOf : MethodName := ⟨RX4, "typeOf", "(II)I"⟩
def dkwX4_typeOf_8 : List UInt8 := [153, 0, 18, 21, 4, 21, 6, 100, 4, 163, 0, 13, 21, 6, 29, 163, 0, 7, 5, 167, 0, 4, 3, 172]
abbrev dktX4_typeOf_8 : List UInt8 := dkwX4_typeOf_8 ++ []
def dkwX4_typeOf_7 : List UInt8 := [182, 0, 67, 16, 48, 160, 0, 7, 4, 167, 0, 4, 3, 54, 8, 21, 7, 153, 0, 27, 21, 8]
abbrev dktX4_typeOf_7 : List UInt8 := dkwX4_typeOf_7 ++ dktX4_typeOf_8
def dkwX4_typeOf_6 : List UInt8 := [182, 0, 67, 184, 0, 84, 126, 54, 7, 132, 8, 1, 167, 255, 231, 21, 7, 153, 0, 19, 42, 27, 21, 6]
abbrev dktX4_typeOf_6 : List UInt8 := dkwX4_typeOf_6 ++ dktX4_typeOf_7
def dkwX4_typeOf_5 : List UInt8 := [16, 9, 184, 0, 59, 54, 7, 21, 6, 54, 8, 21, 8, 21, 4, 162, 0, 24, 21, 7, 42, 27, 21, 8]
abbrev dktX4_typeOf_5 : List UInt8 := dkwX4_typeOf_5 ++ dktX4_typeOf_6
def dkwX4_typeOf_4 : List UInt8 := [182, 0, 67, 16, 45, 160, 0, 9, 29, 4, 96, 167, 0, 4, 29, 54, 6, 21, 4, 21, 6, 100, 4]
abbrev dktX4_typeOf_4 : List UInt8 := dkwX4_typeOf_4 ++ dktX4_typeOf_5
def dkwX4_typeOf_3 : List UInt8 := [54, 5, 132, 6, 1, 167, 255, 202, 21, 5, 21, 4, 29, 100, 160, 0, 5, 4, 172, 42, 27, 29]
abbrev dktX4_typeOf_3 : List UInt8 := dkwX4_typeOf_3 ++ dktX4_typeOf_4
def dkwX4_typeOf_2 : List UInt8 := [42, 27, 21, 6, 182, 0, 67, 16, 65, 16, 90, 184, 0, 59, 153, 0, 7, 4, 167, 0, 4, 3, 96]
abbrev dktX4_typeOf_2 : List UInt8 := dkwX4_typeOf_2 ++ dktX4_typeOf_3
def dkwX4_typeOf_1 : List UInt8 := [21, 4, 162, 0, 53, 21, 5, 42, 27, 21, 6, 182, 0, 67, 16, 97, 16, 122, 184, 0, 59, 154, 0, 20]
abbrev dktX4_typeOf_1 : List UInt8 := dkwX4_typeOf_1 ++ dktX4_typeOf_2
def dkwX4_typeOf_0 : List UInt8 := [42, 27, 28, 182, 0, 78, 62, 42, 27, 28, 182, 0, 75, 54, 4, 3, 54, 5, 29, 54, 6, 21, 6]
abbrev dktX4_typeOf_0 : List UInt8 := dkwX4_typeOf_0 ++ dktX4_typeOf_1
theorem dksX4_typeOf_0 : cX4_typeOf.data.toList.drop 0 = dktX4_typeOf_0 := by decide +kernel
theorem dksX4_typeOf_1 : cX4_typeOf.data.toList.drop 23 = dktX4_typeOf_1 := dk_seg dksX4_typeOf_0 23 rfl rfl
theorem dksX4_typeOf_2 : cX4_typeOf.data.toList.drop 47 = dktX4_typeOf_2 := dk_seg dksX4_typeOf_1 24 rfl rfl
theorem dksX4_typeOf_3 : cX4_typeOf.data.toList.drop 70 = dktX4_typeOf_3 := dk_seg dksX4_typeOf_2 23 rfl rfl
theorem dksX4_typeOf_4 : cX4_typeOf.data.toList.drop 92 = dktX4_typeOf_4 := dk_seg dksX4_typeOf_3 22 rfl rfl
theorem dksX4_typeOf_5 : cX4_typeOf.data.toList.drop 115 = dktX4_typeOf_5 := dk_seg dksX4_typeOf_4 23 rfl rfl
theorem dksX4_typeOf_6 : cX4_typeOf.data.toList.drop 139 = dktX4_typeOf_6 := dk_seg dksX4_typeOf_5 24 rfl rfl
theorem dksX4_typeOf_7 : cX4_typeOf.data.toList.drop 163 = dktX4_typeOf_7 := dk_seg dksX4_typeOf_6 24 rfl rfl
theorem dksX4_typeOf_8 : cX4_typeOf.data.toList.drop 185 = dktX4_typeOf_8 := dk_seg dksX4_typeOf_7 22 rfl rfl
theorem dX4_typeOf_0 : decode cX4_typeOf 0 = .ok (.aload_n 0, 1) := dk_42 (dk_at dksX4_typeOf_0 0 rfl rfl)
theorem dX4_typeOf_1 : decode cX4_typeOf 1 = .ok (.iload_n 1, 1) := dk_27 (dk_at dksX4_typeOf_0 1 rfl rfl)
theorem dX4_typeOf_2 : decode cX4_typeOf 2 = .ok (.iload_n 2, 1) := dk_28 (dk_at dksX4_typeOf_0 2 rfl rfl)
theorem dX4_typeOf_3 : decode cX4_typeOf 3 = .ok (.invokevirtual 78, 3) := dk_182 0 78 (dk_at dksX4_typeOf_0 3 rfl rfl)
theorem dX4_typeOf_6 : decode cX4_typeOf 6 = .ok (.istore_n 3, 1) := dk_62 (dk_at dksX4_typeOf_0 6 rfl rfl)
theorem dX4_typeOf_7 : decode cX4_typeOf 7 = .ok (.aload_n 0, 1) := dk_42 (dk_at dksX4_typeOf_0 7 rfl rfl)
theorem dX4_typeOf_8 : decode cX4_typeOf 8 = .ok (.iload_n 1, 1) := dk_27 (dk_at dksX4_typeOf_0 8 rfl rfl)
theorem dX4_typeOf_9 : decode cX4_typeOf 9 = .ok (.iload_n 2, 1) := dk_28 (dk_at dksX4_typeOf_0 9 rfl rfl)
theorem dX4_typeOf_10 : decode cX4_typeOf 10 = .ok (.invokevirtual 75, 3) := dk_182 0 75 (dk_at dksX4_typeOf_0 10 rfl rfl)
theorem dX4_typeOf_13 : decode cX4_typeOf 13 = .ok (.istore 4, 2) := dk_54 4 (dk_at dksX4_typeOf_0 13 rfl rfl)
theorem dX4_typeOf_15 : decode cX4_typeOf 15 = .ok (.iconst 0, 1) := dk_3 (dk_at dksX4_typeOf_0 15 rfl rfl)
theorem dX4_typeOf_16 : decode cX4_typeOf 16 = .ok (.istore 5, 2) := dk_54 5 (dk_at dksX4_typeOf_0 16 rfl rfl)
theorem dX4_typeOf_18 : decode cX4_typeOf 18 = .ok (.iload_n 3, 1) := dk_29 (dk_at dksX4_typeOf_0 18 rfl rfl)
theorem dX4_typeOf_19 : decode cX4_typeOf 19 = .ok (.istore 6, 2) := dk_54 6 (dk_at dksX4_typeOf_0 19 rfl rfl)
theorem dX4_typeOf_21 : decode cX4_typeOf 21 = .ok (.iload 6, 2) := dk_21 6 (dk_at dksX4_typeOf_0 21 rfl rfl)
theorem dX4_typeOf_23 : decode cX4_typeOf 23 = .ok (.iload 4, 2) := dk_21 4 (dk_at dksX4_typeOf_1 0 rfl rfl)
theorem dX4_typeOf_25 : decode cX4_typeOf 25 = .ok (.if_icmp .ge 53, 3) := dk_162 0 53 (dk_at dksX4_typeOf_1 2 rfl rfl)
theorem dX4_typeOf_28 : decode cX4_typeOf 28 = .ok (.iload 5, 2) := dk_21 5 (dk_at dksX4_typeOf_1 5 rfl rfl)
theorem dX4_typeOf_30 : decode cX4_typeOf 30 = .ok (.aload_n 0, 1) := dk_42 (dk_at dksX4_typeOf_1 7 rfl rfl)
theorem dX4_typeOf_31 : decode cX4_typeOf 31 = .ok (.iload_n 1, 1) := dk_27 (dk_at dksX4_typeOf_1 8 rfl rfl)
theorem dX4_typeOf_32 : decode cX4_typeOf 32 = .ok (.iload 6, 2) := dk_21 6 (dk_at dksX4_typeOf_1 9 rfl rfl)
theorem dX4_typeOf_34 : decode cX4_typeOf 34 = .ok (.invokevirtual 67, 3) := dk_182 0 67 (dk_at dksX4_typeOf_1 11 rfl rfl)
theorem dX4_typeOf_37 : decode cX4_typeOf 37 = .ok (.bipush 97, 2) := dk_16 97 (dk_at dksX4_typeOf_1 14 rfl rfl)
theorem dX4_typeOf_39 : decode cX4_typeOf 39 = .ok (.bipush 122, 2) := dk_16 122 (dk_at dksX4_typeOf_1 16 rfl rfl)
theorem dX4_typeOf_41 : decode cX4_typeOf 41 = .ok (.invokestatic 59, 3) := dk_184 0 59 (dk_at dksX4_typeOf_1 18 rfl rfl)
theorem dX4_typeOf_44 : decode cX4_typeOf 44 = .ok (.ifCond .ne 20, 3) := dk_154 0 20 (dk_at dksX4_typeOf_1 21 rfl rfl)
theorem dX4_typeOf_47 : decode cX4_typeOf 47 = .ok (.aload_n 0, 1) := dk_42 (dk_at dksX4_typeOf_2 0 rfl rfl)
theorem dX4_typeOf_48 : decode cX4_typeOf 48 = .ok (.iload_n 1, 1) := dk_27 (dk_at dksX4_typeOf_2 1 rfl rfl)
theorem dX4_typeOf_49 : decode cX4_typeOf 49 = .ok (.iload 6, 2) := dk_21 6 (dk_at dksX4_typeOf_2 2 rfl rfl)
theorem dX4_typeOf_51 : decode cX4_typeOf 51 = .ok (.invokevirtual 67, 3) := dk_182 0 67 (dk_at dksX4_typeOf_2 4 rfl rfl)
theorem dX4_typeOf_54 : decode cX4_typeOf 54 = .ok (.bipush 65, 2) := dk_16 65 (dk_at dksX4_typeOf_2 7 rfl rfl)
theorem dX4_typeOf_56 : decode cX4_typeOf 56 = .ok (.bipush 90, 2) := dk_16 90 (dk_at dksX4_typeOf_2 9 rfl rfl)
theorem dX4_typeOf_58 : decode cX4_typeOf 58 = .ok (.invokestatic 59, 3) := dk_184 0 59 (dk_at dksX4_typeOf_2 11 rfl rfl)
theorem dX4_typeOf_61 : decode cX4_typeOf 61 = .ok (.ifCond .eq 7, 3) := dk_153 0 7 (dk_at dksX4_typeOf_2 14 rfl rfl)
theorem dX4_typeOf_64 : decode cX4_typeOf 64 = .ok (.iconst 1, 1) := dk_4 (dk_at dksX4_typeOf_2 17 rfl rfl)
theorem dX4_typeOf_65 : decode cX4_typeOf 65 = .ok (.goto 4, 3) := dk_167 0 4 (dk_at dksX4_typeOf_2 18 rfl rfl)
theorem dX4_typeOf_68 : decode cX4_typeOf 68 = .ok (.iconst 0, 1) := dk_3 (dk_at dksX4_typeOf_2 21 rfl rfl)
theorem dX4_typeOf_69 : decode cX4_typeOf 69 = .ok (.iadd, 1) := dk_96 (dk_at dksX4_typeOf_2 22 rfl rfl)
theorem dX4_typeOf_70 : decode cX4_typeOf 70 = .ok (.istore 5, 2) := dk_54 5 (dk_at dksX4_typeOf_3 0 rfl rfl)
theorem dX4_typeOf_72 : decode cX4_typeOf 72 = .ok (.iinc 6 1, 3) := dk_132 6 1 (dk_at dksX4_typeOf_3 2 rfl rfl)
theorem dX4_typeOf_75 : decode cX4_typeOf 75 = .ok (.goto (-54), 3) := dk_167 255 202 (dk_at dksX4_typeOf_3 5 rfl rfl)
theorem dX4_typeOf_78 : decode cX4_typeOf 78 = .ok (.iload 5, 2) := dk_21 5 (dk_at dksX4_typeOf_3 8 rfl rfl)
theorem dX4_typeOf_80 : decode cX4_typeOf 80 = .ok (.iload 4, 2) := dk_21 4 (dk_at dksX4_typeOf_3 10 rfl rfl)
theorem dX4_typeOf_82 : decode cX4_typeOf 82 = .ok (.iload_n 3, 1) := dk_29 (dk_at dksX4_typeOf_3 12 rfl rfl)
theorem dX4_typeOf_83 : decode cX4_typeOf 83 = .ok (.isub, 1) := dk_100 (dk_at dksX4_typeOf_3 13 rfl rfl)
theorem dX4_typeOf_84 : decode cX4_typeOf 84 = .ok (.if_icmp .ne 5, 3) := dk_160 0 5 (dk_at dksX4_typeOf_3 14 rfl rfl)
theorem dX4_typeOf_87 : decode cX4_typeOf 87 = .ok (.iconst 1, 1) := dk_4 (dk_at dksX4_typeOf_3 17 rfl rfl)
theorem dX4_typeOf_88 : decode cX4_typeOf 88 = .ok (.ireturn, 1) := dk_172 (dk_at dksX4_typeOf_3 18 rfl rfl)
theorem dX4_typeOf_89 : decode cX4_typeOf 89 = .ok (.aload_n 0, 1) := dk_42 (dk_at dksX4_typeOf_3 19 rfl rfl)
theorem dX4_typeOf_90 : decode cX4_typeOf 90 = .ok (.iload_n 1, 1) := dk_27 (dk_at dksX4_typeOf_3 20 rfl rfl)
theorem dX4_typeOf_91 : decode cX4_typeOf 91 = .ok (.iload_n 3, 1) := dk_29 (dk_at dksX4_typeOf_3 21 rfl rfl)
theorem dX4_typeOf_92 : decode cX4_typeOf 92 = .ok (.invokevirtual 67, 3) := dk_182 0 67 (dk_at dksX4_typeOf_4 0 rfl rfl)
theorem dX4_typeOf_95 : decode cX4_typeOf 95 = .ok (.bipush 45, 2) := dk_16 45 (dk_at dksX4_typeOf_4 3 rfl rfl)
theorem dX4_typeOf_97 : decode cX4_typeOf 97 = .ok (.if_icmp .ne 9, 3) := dk_160 0 9 (dk_at dksX4_typeOf_4 5 rfl rfl)
theorem dX4_typeOf_100 : decode cX4_typeOf 100 = .ok (.iload_n 3, 1) := dk_29 (dk_at dksX4_typeOf_4 8 rfl rfl)
theorem dX4_typeOf_101 : decode cX4_typeOf 101 = .ok (.iconst 1, 1) := dk_4 (dk_at dksX4_typeOf_4 9 rfl rfl)
theorem dX4_typeOf_102 : decode cX4_typeOf 102 = .ok (.iadd, 1) := dk_96 (dk_at dksX4_typeOf_4 10 rfl rfl)
theorem dX4_typeOf_103 : decode cX4_typeOf 103 = .ok (.goto 4, 3) := dk_167 0 4 (dk_at dksX4_typeOf_4 11 rfl rfl)
theorem dX4_typeOf_106 : decode cX4_typeOf 106 = .ok (.iload_n 3, 1) := dk_29 (dk_at dksX4_typeOf_4 14 rfl rfl)
theorem dX4_typeOf_107 : decode cX4_typeOf 107 = .ok (.istore 6, 2) := dk_54 6 (dk_at dksX4_typeOf_4 15 rfl rfl)
theorem dX4_typeOf_109 : decode cX4_typeOf 109 = .ok (.iload 4, 2) := dk_21 4 (dk_at dksX4_typeOf_4 17 rfl rfl)
theorem dX4_typeOf_111 : decode cX4_typeOf 111 = .ok (.iload 6, 2) := dk_21 6 (dk_at dksX4_typeOf_4 19 rfl rfl)
theorem dX4_typeOf_113 : decode cX4_typeOf 113 = .ok (.isub, 1) := dk_100 (dk_at dksX4_typeOf_4 21 rfl rfl)
theorem dX4_typeOf_114 : decode cX4_typeOf 114 = .ok (.iconst 1, 1) := dk_4 (dk_at dksX4_typeOf_4 22 rfl rfl)
theorem dX4_typeOf_115 : decode cX4_typeOf 115 = .ok (.bipush 9, 2) := dk_16 9 (dk_at dksX4_typeOf_5 0 rfl rfl)
theorem dX4_typeOf_117 : decode cX4_typeOf 117 = .ok (.invokestatic 59, 3) := dk_184 0 59 (dk_at dksX4_typeOf_5 2 rfl rfl)
theorem dX4_typeOf_120 : decode cX4_typeOf 120 = .ok (.istore 7, 2) := dk_54 7 (dk_at dksX4_typeOf_5 5 rfl rfl)
theorem dX4_typeOf_122 : decode cX4_typeOf 122 = .ok (.iload 6, 2) := dk_21 6 (dk_at dksX4_typeOf_5 7 rfl rfl)
theorem dX4_typeOf_124 : decode cX4_typeOf 124 = .ok (.istore 8, 2) := dk_54 8 (dk_at dksX4_typeOf_5 9 rfl rfl)
theorem dX4_typeOf_126 : decode cX4_typeOf 126 = .ok (.iload 8, 2) := dk_21 8 (dk_at dksX4_typeOf_5 11 rfl rfl)
theorem dX4_typeOf_128 : decode cX4_typeOf 128 = .ok (.iload 4, 2) := dk_21 4 (dk_at dksX4_typeOf_5 13 rfl rfl)
theorem dX4_typeOf_130 : decode cX4_typeOf 130 = .ok (.if_icmp .ge 24, 3) := dk_162 0 24 (dk_at dksX4_typeOf_5 15 rfl rfl)
theorem dX4_typeOf_133 : decode cX4_typeOf 133 = .ok (.iload 7, 2) := dk_21 7 (dk_at dksX4_typeOf_5 18 rfl rfl)
theorem dX4_typeOf_135 : decode cX4_typeOf 135 = .ok (.aload_n 0, 1) := dk_42 (dk_at dksX4_typeOf_5 20 rfl rfl)
theorem dX4_typeOf_136 : decode cX4_typeOf 136 = .ok (.iload_n 1, 1) := dk_27 (dk_at dksX4_typeOf_5 21 rfl rfl)
theorem dX4_typeOf_137 : decode cX4_typeOf 137 = .ok (.iload 8, 2) := dk_21 8 (dk_at dksX4_typeOf_5 22 rfl rfl)
theorem dX4_typeOf_139 : decode cX4_typeOf 139 = .ok (.invokevirtual 67, 3) := dk_182 0 67 (dk_at dksX4_typeOf_6 0 rfl rfl)
theorem dX4_typeOf_142 : decode cX4_typeOf 142 = .ok (.invokestatic 84, 3) := dk_184 0 84 (dk_at dksX4_typeOf_6 3 rfl rfl)
theorem dX4_typeOf_145 : decode cX4_typeOf 145 = .ok (.iand, 1) := dk_126 (dk_at dksX4_typeOf_6 6 rfl rfl)
theorem dX4_typeOf_146 : decode cX4_typeOf 146 = .ok (.istore 7, 2) := dk_54 7 (dk_at dksX4_typeOf_6 7 rfl rfl)
theorem dX4_typeOf_148 : decode cX4_typeOf 148 = .ok (.iinc 8 1, 3) := dk_132 8 1 (dk_at dksX4_typeOf_6 9 rfl rfl)
theorem dX4_typeOf_151 : decode cX4_typeOf 151 = .ok (.goto (-25), 3) := dk_167 255 231 (dk_at dksX4_typeOf_6 12 rfl rfl)
theorem dX4_typeOf_154 : decode cX4_typeOf 154 = .ok (.iload 7, 2) := dk_21 7 (dk_at dksX4_typeOf_6 15 rfl rfl)
theorem dX4_typeOf_156 : decode cX4_typeOf 156 = .ok (.ifCond .eq 19, 3) := dk_153 0 19 (dk_at dksX4_typeOf_6 17 rfl rfl)
theorem dX4_typeOf_159 : decode cX4_typeOf 159 = .ok (.aload_n 0, 1) := dk_42 (dk_at dksX4_typeOf_6 20 rfl rfl)
theorem dX4_typeOf_160 : decode cX4_typeOf 160 = .ok (.iload_n 1, 1) := dk_27 (dk_at dksX4_typeOf_6 21 rfl rfl)
theorem dX4_typeOf_161 : decode cX4_typeOf 161 = .ok (.iload 6, 2) := dk_21 6 (dk_at dksX4_typeOf_6 22 rfl rfl)
theorem dX4_typeOf_163 : decode cX4_typeOf 163 = .ok (.invokevirtual 67, 3) := dk_182 0 67 (dk_at dksX4_typeOf_7 0 rfl rfl)
theorem dX4_typeOf_166 : decode cX4_typeOf 166 = .ok (.bipush 48, 2) := dk_16 48 (dk_at dksX4_typeOf_7 3 rfl rfl)
theorem dX4_typeOf_168 : decode cX4_typeOf 168 = .ok (.if_icmp .ne 7, 3) := dk_160 0 7 (dk_at dksX4_typeOf_7 5 rfl rfl)
theorem dX4_typeOf_171 : decode cX4_typeOf 171 = .ok (.iconst 1, 1) := dk_4 (dk_at dksX4_typeOf_7 8 rfl rfl)
theorem dX4_typeOf_172 : decode cX4_typeOf 172 = .ok (.goto 4, 3) := dk_167 0 4 (dk_at dksX4_typeOf_7 9 rfl rfl)
theorem dX4_typeOf_175 : decode cX4_typeOf 175 = .ok (.iconst 0, 1) := dk_3 (dk_at dksX4_typeOf_7 12 rfl rfl)
theorem dX4_typeOf_176 : decode cX4_typeOf 176 = .ok (.istore 8, 2) := dk_54 8 (dk_at dksX4_typeOf_7 13 rfl rfl)
theorem dX4_typeOf_178 : decode cX4_typeOf 178 = .ok (.iload 7, 2) := dk_21 7 (dk_at dksX4_typeOf_7 15 rfl rfl)
theorem dX4_typeOf_180 : decode cX4_typeOf 180 = .ok (.ifCond .eq 27, 3) := dk_153 0 27 (dk_at dksX4_typeOf_7 17 rfl rfl)
theorem dX4_typeOf_183 : decode cX4_typeOf 183 = .ok (.iload 8, 2) := dk_21 8 (dk_at dksX4_typeOf_7 20 rfl rfl)
theorem dX4_typeOf_185 : decode cX4_typeOf 185 = .ok (.ifCond .eq 18, 3) := dk_153 0 18 (dk_at dksX4_typeOf_8 0 rfl rfl)
theorem dX4_typeOf_188 : decode cX4_typeOf 188 = .ok (.iload 4, 2) := dk_21 4 (dk_at dksX4_typeOf_8 3 rfl rfl)
theorem dX4_typeOf_190 : decode cX4_typeOf 190 = .ok (.iload 6, 2) := dk_21 6 (dk_at dksX4_typeOf_8 5 rfl rfl)
theorem dX4_typeOf_192 : decode cX4_typeOf 192 = .ok (.isub, 1) := dk_100 (dk_at dksX4_typeOf_8 7 rfl rfl)
theorem dX4_typeOf_193 : decode cX4_typeOf 193 = .ok (.iconst 1, 1) := dk_4 (dk_at dksX4_typeOf_8 8 rfl rfl)
theorem dX4_typeOf_194 : decode cX4_typeOf 194 = .ok (.if_icmp .gt 13, 3) := dk_163 0 13 (dk_at dksX4_typeOf_8 9 rfl rfl)
theorem dX4_typeOf_197 : decode cX4_typeOf 197 = .ok (.iload 6, 2) := dk_21 6 (dk_at dksX4_typeOf_8 12 rfl rfl)
theorem dX4_typeOf_199 : decode cX4_typeOf 199 = .ok (.iload_n 3, 1) := dk_29 (dk_at dksX4_typeOf_8 14 rfl rfl)
theorem dX4_typeOf_200 : decode cX4_typeOf 200 = .ok (.if_icmp .gt 7, 3) := dk_163 0 7 (dk_at dksX4_typeOf_8 15 rfl rfl)
theorem dX4_typeOf_203 : decode cX4_typeOf 203 = .ok (.iconst 2, 1) := dk_5 (dk_at dksX4_typeOf_8 18 rfl rfl)
theorem dX4_typeOf_204 : decode cX4_typeOf 204 = .ok (.goto 4, 3) := dk_167 0 4 (dk_at dksX4_typeOf_8 19 rfl rfl)
theorem dX4_typeOf_207 : decode cX4_typeOf 207 = .ok (.iconst 0, 1) := dk_3 (dk_at dksX4_typeOf_8 22 rfl rfl)
theorem dX4_typeOf_208 : decode cX4_typeOf 208 = .ok (.ireturn, 1) := dk_172 (dk_at dksX4_typeOf_8 23 rfl rfl)
abbrev cX4_isDigit : ByteArray := prog_17_method_15_code
def yX4_isDigit : MethodName := ⟨RX4, "isDigit", "(I)Z"⟩
def dkwX4_isDigit_0 : List UInt8 := [26, 16, 48, 16, 57, 184, 0, 59, 172]
abbrev dktX4_isDigit_0 : List UInt8 := dkwX4_isDigit_0 ++ []
theorem dksX4_isDigit_0 : cX4_isDigit.data.toList.drop 0 = dktX4_isDigit_0 := by decide +kernel
theorem dX4_isDigit_0 : decode cX4_isDigit 0 = .ok (.iload_n 0, 1) := dk_26 (dk_at dksX4_isDigit_0 0 rfl rfl)
theorem dX4_isDigit_1 : decode cX4_isDigit 1 = .ok (.bipush 48, 2) := dk_16 48 (dk_at dksX4_isDigit_0 1 rfl rfl)
theorem dX4_isDigit_3 : decode cX4_isDigit 3 = .ok (.bipush 57, 2) := dk_16 57 (dk_at dksX4_isDigit_0 3 rfl rfl)
theorem dX4_isDigit_5 : decode cX4_isDigit 5 = .ok (.invokestatic 59, 3) := dk_184 0 59 (dk_at dksX4_isDigit_0 5 rfl rfl)
theorem dX4_isDigit_8 : decode cX4_isDigit 8 = .ok (.ireturn, 1) := dk_172 (dk_at dksX4_isDigit_0 8 rfl rfl)
abbrev cX4_fit : ByteArray := prog_17_method_25_code
def yX4_fit : MethodName := ⟨RX4, "fit", "(II)I"⟩
def dkwX4_fit_2 : List UInt8 := [153, 0, 7, 4, 167, 0, 4, 3, 96, 54, 4, 132, 5, 1, 167, 255, 208, 21, 4, 172]
abbrev dktX4_fit_2 : List UInt8 := dkwX4_fit_2 ++ []
def dkwX4_fit_1 : List UInt8 := [21, 4, 42, 27, 21, 5, 182, 0, 97, 2, 160, 0, 20, 42, 29, 21, 5, 28, 21, 5, 182, 0, 100]
abbrev dktX4_fit_1 : List UInt8 := dkwX4_fit_1 ++ dktX4_fit_2
def dkwX4_fit_0 : List UInt8 := [42, 27, 3, 182, 0, 88, 62, 3, 54, 4, 3, 54, 5, 21, 5, 42, 180, 0, 22, 28, 46, 162, 0, 43]
abbrev dktX4_fit_0 : List UInt8 := dkwX4_fit_0 ++ dktX4_fit_1
theorem dksX4_fit_0 : cX4_fit.data.toList.drop 0 = dktX4_fit_0 := by decide +kernel
theorem dksX4_fit_1 : cX4_fit.data.toList.drop 24 = dktX4_fit_1 := dk_seg dksX4_fit_0 24 rfl rfl
theorem dksX4_fit_2 : cX4_fit.data.toList.drop 47 = dktX4_fit_2 := dk_seg dksX4_fit_1 23 rfl rfl
theorem dX4_fit_0 : decode cX4_fit 0 = .ok (.aload_n 0, 1) := dk_42 (dk_at dksX4_fit_0 0 rfl rfl)
theorem dX4_fit_1 : decode cX4_fit 1 = .ok (.iload_n 1, 1) := dk_27 (dk_at dksX4_fit_0 1 rfl rfl)
theorem dX4_fit_2 : decode cX4_fit 2 = .ok (.iconst 0, 1) := dk_3 (dk_at dksX4_fit_0 2 rfl rfl)
theorem dX4_fit_3 : decode cX4_fit 3 = .ok (.invokevirtual 88, 3) := dk_182 0 88 (dk_at dksX4_fit_0 3 rfl rfl)
theorem dX4_fit_6 : decode cX4_fit 6 = .ok (.istore_n 3, 1) := dk_62 (dk_at dksX4_fit_0 6 rfl rfl)
theorem dX4_fit_7 : decode cX4_fit 7 = .ok (.iconst 0, 1) := dk_3 (dk_at dksX4_fit_0 7 rfl rfl)
theorem dX4_fit_8 : decode cX4_fit 8 = .ok (.istore 4, 2) := dk_54 4 (dk_at dksX4_fit_0 8 rfl rfl)
theorem dX4_fit_10 : decode cX4_fit 10 = .ok (.iconst 0, 1) := dk_3 (dk_at dksX4_fit_0 10 rfl rfl)
theorem dX4_fit_11 : decode cX4_fit 11 = .ok (.istore 5, 2) := dk_54 5 (dk_at dksX4_fit_0 11 rfl rfl)
theorem dX4_fit_13 : decode cX4_fit 13 = .ok (.iload 5, 2) := dk_21 5 (dk_at dksX4_fit_0 13 rfl rfl)
theorem dX4_fit_15 : decode cX4_fit 15 = .ok (.aload_n 0, 1) := dk_42 (dk_at dksX4_fit_0 15 rfl rfl)
theorem dX4_fit_16 : decode cX4_fit 16 = .ok (.getfield 22, 3) := dk_180 0 22 (dk_at dksX4_fit_0 16 rfl rfl)
theorem dX4_fit_19 : decode cX4_fit 19 = .ok (.iload_n 2, 1) := dk_28 (dk_at dksX4_fit_0 19 rfl rfl)
theorem dX4_fit_20 : decode cX4_fit 20 = .ok (.iaload, 1) := dk_46 (dk_at dksX4_fit_0 20 rfl rfl)
theorem dX4_fit_21 : decode cX4_fit 21 = .ok (.if_icmp .ge 43, 3) := dk_162 0 43 (dk_at dksX4_fit_0 21 rfl rfl)
theorem dX4_fit_24 : decode cX4_fit 24 = .ok (.iload 4, 2) := dk_21 4 (dk_at dksX4_fit_1 0 rfl rfl)
theorem dX4_fit_26 : decode cX4_fit 26 = .ok (.aload_n 0, 1) := dk_42 (dk_at dksX4_fit_1 2 rfl rfl)
theorem dX4_fit_27 : decode cX4_fit 27 = .ok (.iload_n 1, 1) := dk_27 (dk_at dksX4_fit_1 3 rfl rfl)
theorem dX4_fit_28 : decode cX4_fit 28 = .ok (.iload 5, 2) := dk_21 5 (dk_at dksX4_fit_1 4 rfl rfl)
theorem dX4_fit_30 : decode cX4_fit 30 = .ok (.invokevirtual 97, 3) := dk_182 0 97 (dk_at dksX4_fit_1 6 rfl rfl)
theorem dX4_fit_33 : decode cX4_fit 33 = .ok (.iconst (-1), 1) := dk_2 (dk_at dksX4_fit_1 9 rfl rfl)
theorem dX4_fit_34 : decode cX4_fit 34 = .ok (.if_icmp .ne 20, 3) := dk_160 0 20 (dk_at dksX4_fit_1 10 rfl rfl)
theorem dX4_fit_37 : decode cX4_fit 37 = .ok (.aload_n 0, 1) := dk_42 (dk_at dksX4_fit_1 13 rfl rfl)
theorem dX4_fit_38 : decode cX4_fit 38 = .ok (.iload_n 3, 1) := dk_29 (dk_at dksX4_fit_1 14 rfl rfl)
theorem dX4_fit_39 : decode cX4_fit 39 = .ok (.iload 5, 2) := dk_21 5 (dk_at dksX4_fit_1 15 rfl rfl)
theorem dX4_fit_41 : decode cX4_fit 41 = .ok (.iload_n 2, 1) := dk_28 (dk_at dksX4_fit_1 17 rfl rfl)
theorem dX4_fit_42 : decode cX4_fit 42 = .ok (.iload 5, 2) := dk_21 5 (dk_at dksX4_fit_1 18 rfl rfl)
theorem dX4_fit_44 : decode cX4_fit 44 = .ok (.invokevirtual 100, 3) := dk_182 0 100 (dk_at dksX4_fit_1 20 rfl rfl)
theorem dX4_fit_47 : decode cX4_fit 47 = .ok (.ifCond .eq 7, 3) := dk_153 0 7 (dk_at dksX4_fit_2 0 rfl rfl)
theorem dX4_fit_50 : decode cX4_fit 50 = .ok (.iconst 1, 1) := dk_4 (dk_at dksX4_fit_2 3 rfl rfl)
theorem dX4_fit_51 : decode cX4_fit 51 = .ok (.goto 4, 3) := dk_167 0 4 (dk_at dksX4_fit_2 4 rfl rfl)
theorem dX4_fit_54 : decode cX4_fit 54 = .ok (.iconst 0, 1) := dk_3 (dk_at dksX4_fit_2 7 rfl rfl)
theorem dX4_fit_55 : decode cX4_fit 55 = .ok (.iadd, 1) := dk_96 (dk_at dksX4_fit_2 8 rfl rfl)
theorem dX4_fit_56 : decode cX4_fit 56 = .ok (.istore 4, 2) := dk_54 4 (dk_at dksX4_fit_2 9 rfl rfl)
theorem dX4_fit_58 : decode cX4_fit 58 = .ok (.iinc 5 1, 3) := dk_132 5 1 (dk_at dksX4_fit_2 11 rfl rfl)
theorem dX4_fit_61 : decode cX4_fit 61 = .ok (.goto (-48), 3) := dk_167 255 208 (dk_at dksX4_fit_2 14 rfl rfl)
theorem dX4_fit_64 : decode cX4_fit 64 = .ok (.iload 4, 2) := dk_21 4 (dk_at dksX4_fit_2 17 rfl rfl)
theorem dX4_fit_66 : decode cX4_fit 66 = .ok (.ireturn, 1) := dk_172 (dk_at dksX4_fit_2 19 rfl rfl)
abbrev cX4_freeTemplate : ByteArray := prog_17_method_22_code
def yX4_freeTemplate : MethodName := ⟨RX4, "freeTemplate", "()I"⟩
def dkwX4_freeTemplate_0 : List UInt8 := [3, 60, 27, 16, 12, 162, 0, 17, 42, 27, 182, 0, 91, 153, 0, 9, 132, 1, 1, 167, 255, 239, 27, 172]
abbrev dktX4_freeTemplate_0 : List UInt8 := dkwX4_freeTemplate_0 ++ []
theorem dksX4_freeTemplate_0 : cX4_freeTemplate.data.toList.drop 0 = dktX4_freeTemplate_0 := by decide +kernel
theorem dX4_freeTemplate_0 : decode cX4_freeTemplate 0 = .ok (.iconst 0, 1) := dk_3 (dk_at dksX4_freeTemplate_0 0 rfl rfl)
theorem dX4_freeTemplate_1 : decode cX4_freeTemplate 1 = .ok (.istore_n 1, 1) := dk_60 (dk_at dksX4_freeTemplate_0 1 rfl rfl)
theorem dX4_freeTemplate_2 : decode cX4_freeTemplate 2 = .ok (.iload_n 1, 1) := dk_27 (dk_at dksX4_freeTemplate_0 2 rfl rfl)
theorem dX4_freeTemplate_3 : decode cX4_freeTemplate 3 = .ok (.bipush 12, 2) := dk_16 12 (dk_at dksX4_freeTemplate_0 3 rfl rfl)
theorem dX4_freeTemplate_5 : decode cX4_freeTemplate 5 = .ok (.if_icmp .ge 17, 3) := dk_162 0 17 (dk_at dksX4_freeTemplate_0 5 rfl rfl)
theorem dX4_freeTemplate_8 : decode cX4_freeTemplate 8 = .ok (.aload_n 0, 1) := dk_42 (dk_at dksX4_freeTemplate_0 8 rfl rfl)
theorem dX4_freeTemplate_9 : decode cX4_freeTemplate 9 = .ok (.iload_n 1, 1) := dk_27 (dk_at dksX4_freeTemplate_0 9 rfl rfl)
theorem dX4_freeTemplate_10 : decode cX4_freeTemplate 10 = .ok (.invokevirtual 91, 3) := dk_182 0 91 (dk_at dksX4_freeTemplate_0 10 rfl rfl)
theorem dX4_freeTemplate_13 : decode cX4_freeTemplate 13 = .ok (.ifCond .eq 9, 3) := dk_153 0 9 (dk_at dksX4_freeTemplate_0 13 rfl rfl)
theorem dX4_freeTemplate_16 : decode cX4_freeTemplate 16 = .ok (.iinc 1 1, 3) := dk_132 1 1 (dk_at dksX4_freeTemplate_0 16 rfl rfl)
theorem dX4_freeTemplate_19 : decode cX4_freeTemplate 19 = .ok (.goto (-17), 3) := dk_167 255 239 (dk_at dksX4_freeTemplate_0 19 rfl rfl)
theorem dX4_freeTemplate_22 : decode cX4_freeTemplate 22 = .ok (.iload_n 1, 1) := dk_27 (dk_at dksX4_freeTemplate_0 22 rfl rfl)
theorem dX4_freeTemplate_23 : decode cX4_freeTemplate 23 = .ok (.ireturn, 1) := dk_172 (dk_at dksX4_freeTemplate_0 23 rfl rfl)
abbrev cX4_reports : ByteArray := prog_17_method_29_code
def yX4_reports : MethodName := ⟨RX4, "reports", "(IIII)I"⟩
def dkwX4_reports_1 : List UInt8 := [29, 79, 42, 180, 0, 34, 4, 21, 4, 79, 3, 172]
abbrev dktX4_reports_1 : List UInt8 := dkwX4_reports_1 ++ []
def dkwX4_reports_0 : List UInt8 := [42, 4, 181, 0, 115, 42, 180, 0, 31, 3, 27, 79, 42, 180, 0, 34, 3, 28, 79, 42, 180, 0, 31, 4]
abbrev dktX4_reports_0 : List UInt8 := dkwX4_reports_0 ++ dktX4_reports_1
theorem dksX4_reports_0 : cX4_reports.data.toList.drop 0 = dktX4_reports_0 := by decide +kernel
theorem dksX4_reports_1 : cX4_reports.data.toList.drop 24 = dktX4_reports_1 := dk_seg dksX4_reports_0 24 rfl rfl
theorem dX4_reports_0 : decode cX4_reports 0 = .ok (.aload_n 0, 1) := dk_42 (dk_at dksX4_reports_0 0 rfl rfl)
theorem dX4_reports_1 : decode cX4_reports 1 = .ok (.iconst 1, 1) := dk_4 (dk_at dksX4_reports_0 1 rfl rfl)
theorem dX4_reports_2 : decode cX4_reports 2 = .ok (.putfield 115, 3) := dk_181 0 115 (dk_at dksX4_reports_0 2 rfl rfl)
theorem dX4_reports_5 : decode cX4_reports 5 = .ok (.aload_n 0, 1) := dk_42 (dk_at dksX4_reports_0 5 rfl rfl)
theorem dX4_reports_6 : decode cX4_reports 6 = .ok (.getfield 31, 3) := dk_180 0 31 (dk_at dksX4_reports_0 6 rfl rfl)
theorem dX4_reports_9 : decode cX4_reports 9 = .ok (.iconst 0, 1) := dk_3 (dk_at dksX4_reports_0 9 rfl rfl)
theorem dX4_reports_10 : decode cX4_reports 10 = .ok (.iload_n 1, 1) := dk_27 (dk_at dksX4_reports_0 10 rfl rfl)
theorem dX4_reports_11 : decode cX4_reports 11 = .ok (.iastore, 1) := dk_79 (dk_at dksX4_reports_0 11 rfl rfl)
theorem dX4_reports_12 : decode cX4_reports 12 = .ok (.aload_n 0, 1) := dk_42 (dk_at dksX4_reports_0 12 rfl rfl)
theorem dX4_reports_13 : decode cX4_reports 13 = .ok (.getfield 34, 3) := dk_180 0 34 (dk_at dksX4_reports_0 13 rfl rfl)
theorem dX4_reports_16 : decode cX4_reports 16 = .ok (.iconst 0, 1) := dk_3 (dk_at dksX4_reports_0 16 rfl rfl)
theorem dX4_reports_17 : decode cX4_reports 17 = .ok (.iload_n 2, 1) := dk_28 (dk_at dksX4_reports_0 17 rfl rfl)
theorem dX4_reports_18 : decode cX4_reports 18 = .ok (.iastore, 1) := dk_79 (dk_at dksX4_reports_0 18 rfl rfl)
theorem dX4_reports_19 : decode cX4_reports 19 = .ok (.aload_n 0, 1) := dk_42 (dk_at dksX4_reports_0 19 rfl rfl)
theorem dX4_reports_20 : decode cX4_reports 20 = .ok (.getfield 31, 3) := dk_180 0 31 (dk_at dksX4_reports_0 20 rfl rfl)
theorem dX4_reports_23 : decode cX4_reports 23 = .ok (.iconst 1, 1) := dk_4 (dk_at dksX4_reports_0 23 rfl rfl)
theorem dX4_reports_24 : decode cX4_reports 24 = .ok (.iload_n 3, 1) := dk_29 (dk_at dksX4_reports_1 0 rfl rfl)
theorem dX4_reports_25 : decode cX4_reports 25 = .ok (.iastore, 1) := dk_79 (dk_at dksX4_reports_1 1 rfl rfl)
theorem dX4_reports_26 : decode cX4_reports 26 = .ok (.aload_n 0, 1) := dk_42 (dk_at dksX4_reports_1 2 rfl rfl)
theorem dX4_reports_27 : decode cX4_reports 27 = .ok (.getfield 34, 3) := dk_180 0 34 (dk_at dksX4_reports_1 3 rfl rfl)
theorem dX4_reports_30 : decode cX4_reports 30 = .ok (.iconst 1, 1) := dk_4 (dk_at dksX4_reports_1 6 rfl rfl)
theorem dX4_reports_31 : decode cX4_reports 31 = .ok (.iload 4, 2) := dk_21 4 (dk_at dksX4_reports_1 7 rfl rfl)
theorem dX4_reports_33 : decode cX4_reports 33 = .ok (.iastore, 1) := dk_79 (dk_at dksX4_reports_1 9 rfl rfl)
theorem dX4_reports_34 : decode cX4_reports 34 = .ok (.iconst 0, 1) := dk_3 (dk_at dksX4_reports_1 10 rfl rfl)
theorem dX4_reports_35 : decode cX4_reports 35 = .ok (.ireturn, 1) := dk_172 (dk_at dksX4_reports_1 11 rfl rfl)
abbrev cX4_keep : ByteArray := prog_17_method_32_code
def yX4_keep : MethodName := ⟨RX4, "keep", "()V"⟩
def dkwX4_keep_4 : List UInt8 := [181, 0, 125, 177]
abbrev dktX4_keep_4 : List UInt8 := dkwX4_keep_4 ++ []
def dkwX4_keep_3 : List UInt8 := [27, 96, 42, 180, 0, 9, 27, 46, 79, 132, 1, 1, 167, 255, 225, 42, 89, 180, 0, 125, 4, 96]
abbrev dktX4_keep_3 : List UInt8 := dkwX4_keep_3 ++ dktX4_keep_4
def dkwX4_keep_2 : List UInt8 := [181, 0, 125, 3, 60, 27, 17, 7, 172, 162, 0, 30, 42, 180, 0, 19, 17, 7, 172, 42, 180, 0, 125, 104]
abbrev dktX4_keep_2 : List UInt8 := dkwX4_keep_2 ++ dktX4_keep_3
def dkwX4_keep_1 : List UInt8 := [180, 0, 19, 27, 17, 7, 172, 96, 46, 79, 132, 1, 1, 167, 255, 230, 42, 89, 180, 0, 125, 4, 100]
abbrev dktX4_keep_1 : List UInt8 := dkwX4_keep_1 ++ dktX4_keep_2
def dkwX4_keep_0 : List UInt8 := [42, 180, 0, 125, 16, 10, 160, 0, 44, 3, 60, 27, 17, 69, 12, 162, 0, 25, 42, 180, 0, 19, 27, 42]
abbrev dktX4_keep_0 : List UInt8 := dkwX4_keep_0 ++ dktX4_keep_1
theorem dksX4_keep_0 : cX4_keep.data.toList.drop 0 = dktX4_keep_0 := by decide +kernel
theorem dksX4_keep_1 : cX4_keep.data.toList.drop 24 = dktX4_keep_1 := dk_seg dksX4_keep_0 24 rfl rfl
theorem dksX4_keep_2 : cX4_keep.data.toList.drop 47 = dktX4_keep_2 := dk_seg dksX4_keep_1 23 rfl rfl
theorem dksX4_keep_3 : cX4_keep.data.toList.drop 71 = dktX4_keep_3 := dk_seg dksX4_keep_2 24 rfl rfl
theorem dksX4_keep_4 : cX4_keep.data.toList.drop 93 = dktX4_keep_4 := dk_seg dksX4_keep_3 22 rfl rfl
theorem dX4_keep_0 : decode cX4_keep 0 = .ok (.aload_n 0, 1) := dk_42 (dk_at dksX4_keep_0 0 rfl rfl)
theorem dX4_keep_1 : decode cX4_keep 1 = .ok (.getfield 125, 3) := dk_180 0 125 (dk_at dksX4_keep_0 1 rfl rfl)
theorem dX4_keep_4 : decode cX4_keep 4 = .ok (.bipush 10, 2) := dk_16 10 (dk_at dksX4_keep_0 4 rfl rfl)
theorem dX4_keep_6 : decode cX4_keep 6 = .ok (.if_icmp .ne 44, 3) := dk_160 0 44 (dk_at dksX4_keep_0 6 rfl rfl)
theorem dX4_keep_9 : decode cX4_keep 9 = .ok (.iconst 0, 1) := dk_3 (dk_at dksX4_keep_0 9 rfl rfl)
theorem dX4_keep_10 : decode cX4_keep 10 = .ok (.istore_n 1, 1) := dk_60 (dk_at dksX4_keep_0 10 rfl rfl)
theorem dX4_keep_11 : decode cX4_keep 11 = .ok (.iload_n 1, 1) := dk_27 (dk_at dksX4_keep_0 11 rfl rfl)
theorem dX4_keep_12 : decode cX4_keep 12 = .ok (.sipush 17676, 3) := dk_17 69 12 (dk_at dksX4_keep_0 12 rfl rfl)
theorem dX4_keep_15 : decode cX4_keep 15 = .ok (.if_icmp .ge 25, 3) := dk_162 0 25 (dk_at dksX4_keep_0 15 rfl rfl)
theorem dX4_keep_18 : decode cX4_keep 18 = .ok (.aload_n 0, 1) := dk_42 (dk_at dksX4_keep_0 18 rfl rfl)
theorem dX4_keep_19 : decode cX4_keep 19 = .ok (.getfield 19, 3) := dk_180 0 19 (dk_at dksX4_keep_0 19 rfl rfl)
theorem dX4_keep_22 : decode cX4_keep 22 = .ok (.iload_n 1, 1) := dk_27 (dk_at dksX4_keep_0 22 rfl rfl)
theorem dX4_keep_23 : decode cX4_keep 23 = .ok (.aload_n 0, 1) := dk_42 (dk_at dksX4_keep_0 23 rfl rfl)
theorem dX4_keep_24 : decode cX4_keep 24 = .ok (.getfield 19, 3) := dk_180 0 19 (dk_at dksX4_keep_1 0 rfl rfl)
theorem dX4_keep_27 : decode cX4_keep 27 = .ok (.iload_n 1, 1) := dk_27 (dk_at dksX4_keep_1 3 rfl rfl)
theorem dX4_keep_28 : decode cX4_keep 28 = .ok (.sipush 1964, 3) := dk_17 7 172 (dk_at dksX4_keep_1 4 rfl rfl)
theorem dX4_keep_31 : decode cX4_keep 31 = .ok (.iadd, 1) := dk_96 (dk_at dksX4_keep_1 7 rfl rfl)
theorem dX4_keep_32 : decode cX4_keep 32 = .ok (.iaload, 1) := dk_46 (dk_at dksX4_keep_1 8 rfl rfl)
theorem dX4_keep_33 : decode cX4_keep 33 = .ok (.iastore, 1) := dk_79 (dk_at dksX4_keep_1 9 rfl rfl)
theorem dX4_keep_34 : decode cX4_keep 34 = .ok (.iinc 1 1, 3) := dk_132 1 1 (dk_at dksX4_keep_1 10 rfl rfl)
theorem dX4_keep_37 : decode cX4_keep 37 = .ok (.goto (-26), 3) := dk_167 255 230 (dk_at dksX4_keep_1 13 rfl rfl)
theorem dX4_keep_40 : decode cX4_keep 40 = .ok (.aload_n 0, 1) := dk_42 (dk_at dksX4_keep_1 16 rfl rfl)
theorem dX4_keep_41 : decode cX4_keep 41 = .ok (.dup, 1) := dk_89 (dk_at dksX4_keep_1 17 rfl rfl)
theorem dX4_keep_42 : decode cX4_keep 42 = .ok (.getfield 125, 3) := dk_180 0 125 (dk_at dksX4_keep_1 18 rfl rfl)
theorem dX4_keep_45 : decode cX4_keep 45 = .ok (.iconst 1, 1) := dk_4 (dk_at dksX4_keep_1 21 rfl rfl)
theorem dX4_keep_46 : decode cX4_keep 46 = .ok (.isub, 1) := dk_100 (dk_at dksX4_keep_1 22 rfl rfl)
theorem dX4_keep_47 : decode cX4_keep 47 = .ok (.putfield 125, 3) := dk_181 0 125 (dk_at dksX4_keep_2 0 rfl rfl)
theorem dX4_keep_50 : decode cX4_keep 50 = .ok (.iconst 0, 1) := dk_3 (dk_at dksX4_keep_2 3 rfl rfl)
theorem dX4_keep_51 : decode cX4_keep 51 = .ok (.istore_n 1, 1) := dk_60 (dk_at dksX4_keep_2 4 rfl rfl)
theorem dX4_keep_52 : decode cX4_keep 52 = .ok (.iload_n 1, 1) := dk_27 (dk_at dksX4_keep_2 5 rfl rfl)
theorem dX4_keep_53 : decode cX4_keep 53 = .ok (.sipush 1964, 3) := dk_17 7 172 (dk_at dksX4_keep_2 6 rfl rfl)
theorem dX4_keep_56 : decode cX4_keep 56 = .ok (.if_icmp .ge 30, 3) := dk_162 0 30 (dk_at dksX4_keep_2 9 rfl rfl)
theorem dX4_keep_59 : decode cX4_keep 59 = .ok (.aload_n 0, 1) := dk_42 (dk_at dksX4_keep_2 12 rfl rfl)
theorem dX4_keep_60 : decode cX4_keep 60 = .ok (.getfield 19, 3) := dk_180 0 19 (dk_at dksX4_keep_2 13 rfl rfl)
theorem dX4_keep_63 : decode cX4_keep 63 = .ok (.sipush 1964, 3) := dk_17 7 172 (dk_at dksX4_keep_2 16 rfl rfl)
theorem dX4_keep_66 : decode cX4_keep 66 = .ok (.aload_n 0, 1) := dk_42 (dk_at dksX4_keep_2 19 rfl rfl)
theorem dX4_keep_67 : decode cX4_keep 67 = .ok (.getfield 125, 3) := dk_180 0 125 (dk_at dksX4_keep_2 20 rfl rfl)
theorem dX4_keep_70 : decode cX4_keep 70 = .ok (.imul, 1) := dk_104 (dk_at dksX4_keep_2 23 rfl rfl)
theorem dX4_keep_71 : decode cX4_keep 71 = .ok (.iload_n 1, 1) := dk_27 (dk_at dksX4_keep_3 0 rfl rfl)
theorem dX4_keep_72 : decode cX4_keep 72 = .ok (.iadd, 1) := dk_96 (dk_at dksX4_keep_3 1 rfl rfl)
theorem dX4_keep_73 : decode cX4_keep 73 = .ok (.aload_n 0, 1) := dk_42 (dk_at dksX4_keep_3 2 rfl rfl)
theorem dX4_keep_74 : decode cX4_keep 74 = .ok (.getfield 9, 3) := dk_180 0 9 (dk_at dksX4_keep_3 3 rfl rfl)
theorem dX4_keep_77 : decode cX4_keep 77 = .ok (.iload_n 1, 1) := dk_27 (dk_at dksX4_keep_3 6 rfl rfl)
theorem dX4_keep_78 : decode cX4_keep 78 = .ok (.iaload, 1) := dk_46 (dk_at dksX4_keep_3 7 rfl rfl)
theorem dX4_keep_79 : decode cX4_keep 79 = .ok (.iastore, 1) := dk_79 (dk_at dksX4_keep_3 8 rfl rfl)
theorem dX4_keep_80 : decode cX4_keep 80 = .ok (.iinc 1 1, 3) := dk_132 1 1 (dk_at dksX4_keep_3 9 rfl rfl)
theorem dX4_keep_83 : decode cX4_keep 83 = .ok (.goto (-31), 3) := dk_167 255 225 (dk_at dksX4_keep_3 12 rfl rfl)
theorem dX4_keep_86 : decode cX4_keep 86 = .ok (.aload_n 0, 1) := dk_42 (dk_at dksX4_keep_3 15 rfl rfl)
theorem dX4_keep_87 : decode cX4_keep 87 = .ok (.dup, 1) := dk_89 (dk_at dksX4_keep_3 16 rfl rfl)
theorem dX4_keep_88 : decode cX4_keep 88 = .ok (.getfield 125, 3) := dk_180 0 125 (dk_at dksX4_keep_3 17 rfl rfl)
theorem dX4_keep_91 : decode cX4_keep 91 = .ok (.iconst 1, 1) := dk_4 (dk_at dksX4_keep_3 20 rfl rfl)
theorem dX4_keep_92 : decode cX4_keep 92 = .ok (.iadd, 1) := dk_96 (dk_at dksX4_keep_3 21 rfl rfl)
theorem dX4_keep_93 : decode cX4_keep 93 = .ok (.putfield 125, 3) := dk_181 0 125 (dk_at dksX4_keep_4 0 rfl rfl)
theorem dX4_keep_96 : decode cX4_keep 96 = .ok (.return_, 1) := dk_177 (dk_at dksX4_keep_4 3 rfl rfl)
abbrev cX4_widen : ByteArray := prog_17_method_28_code
def yX4_widen : MethodName := ⟨RX4, "widen", "(II)V"⟩
def dkwX4_widen_2 : List UInt8 := [28, 21, 4, 182, 0, 111, 79, 132, 4, 1, 167, 255, 210, 177]
abbrev dktX4_widen_2 : List UInt8 := dkwX4_widen_2 ++ []
def dkwX4_widen_1 : List UInt8 := [180, 0, 9, 17, 6, 188, 16, 20, 27, 104, 96, 21, 4, 96, 42, 42, 27, 21, 4, 182, 0, 97, 29, 2]
abbrev dktX4_widen_1 : List UInt8 := dkwX4_widen_1 ++ dktX4_widen_2
def dkwX4_widen_0 : List UInt8 := [42, 27, 3, 182, 0, 88, 62, 3, 54, 4, 21, 4, 42, 180, 0, 22, 28, 46, 162, 0, 41, 42]
abbrev dktX4_widen_0 : List UInt8 := dkwX4_widen_0 ++ dktX4_widen_1
theorem dksX4_widen_0 : cX4_widen.data.toList.drop 0 = dktX4_widen_0 := by decide +kernel
theorem dksX4_widen_1 : cX4_widen.data.toList.drop 22 = dktX4_widen_1 := dk_seg dksX4_widen_0 22 rfl rfl
theorem dksX4_widen_2 : cX4_widen.data.toList.drop 46 = dktX4_widen_2 := dk_seg dksX4_widen_1 24 rfl rfl
theorem dX4_widen_0 : decode cX4_widen 0 = .ok (.aload_n 0, 1) := dk_42 (dk_at dksX4_widen_0 0 rfl rfl)
theorem dX4_widen_1 : decode cX4_widen 1 = .ok (.iload_n 1, 1) := dk_27 (dk_at dksX4_widen_0 1 rfl rfl)
theorem dX4_widen_2 : decode cX4_widen 2 = .ok (.iconst 0, 1) := dk_3 (dk_at dksX4_widen_0 2 rfl rfl)
theorem dX4_widen_3 : decode cX4_widen 3 = .ok (.invokevirtual 88, 3) := dk_182 0 88 (dk_at dksX4_widen_0 3 rfl rfl)
theorem dX4_widen_6 : decode cX4_widen 6 = .ok (.istore_n 3, 1) := dk_62 (dk_at dksX4_widen_0 6 rfl rfl)
theorem dX4_widen_7 : decode cX4_widen 7 = .ok (.iconst 0, 1) := dk_3 (dk_at dksX4_widen_0 7 rfl rfl)
theorem dX4_widen_8 : decode cX4_widen 8 = .ok (.istore 4, 2) := dk_54 4 (dk_at dksX4_widen_0 8 rfl rfl)
theorem dX4_widen_10 : decode cX4_widen 10 = .ok (.iload 4, 2) := dk_21 4 (dk_at dksX4_widen_0 10 rfl rfl)
theorem dX4_widen_12 : decode cX4_widen 12 = .ok (.aload_n 0, 1) := dk_42 (dk_at dksX4_widen_0 12 rfl rfl)
theorem dX4_widen_13 : decode cX4_widen 13 = .ok (.getfield 22, 3) := dk_180 0 22 (dk_at dksX4_widen_0 13 rfl rfl)
theorem dX4_widen_16 : decode cX4_widen 16 = .ok (.iload_n 2, 1) := dk_28 (dk_at dksX4_widen_0 16 rfl rfl)
theorem dX4_widen_17 : decode cX4_widen 17 = .ok (.iaload, 1) := dk_46 (dk_at dksX4_widen_0 17 rfl rfl)
theorem dX4_widen_18 : decode cX4_widen 18 = .ok (.if_icmp .ge 41, 3) := dk_162 0 41 (dk_at dksX4_widen_0 18 rfl rfl)
theorem dX4_widen_21 : decode cX4_widen 21 = .ok (.aload_n 0, 1) := dk_42 (dk_at dksX4_widen_0 21 rfl rfl)
theorem dX4_widen_22 : decode cX4_widen 22 = .ok (.getfield 9, 3) := dk_180 0 9 (dk_at dksX4_widen_1 0 rfl rfl)
theorem dX4_widen_25 : decode cX4_widen 25 = .ok (.sipush 1724, 3) := dk_17 6 188 (dk_at dksX4_widen_1 3 rfl rfl)
theorem dX4_widen_28 : decode cX4_widen 28 = .ok (.bipush 20, 2) := dk_16 20 (dk_at dksX4_widen_1 6 rfl rfl)
theorem dX4_widen_30 : decode cX4_widen 30 = .ok (.iload_n 1, 1) := dk_27 (dk_at dksX4_widen_1 8 rfl rfl)
theorem dX4_widen_31 : decode cX4_widen 31 = .ok (.imul, 1) := dk_104 (dk_at dksX4_widen_1 9 rfl rfl)
theorem dX4_widen_32 : decode cX4_widen 32 = .ok (.iadd, 1) := dk_96 (dk_at dksX4_widen_1 10 rfl rfl)
theorem dX4_widen_33 : decode cX4_widen 33 = .ok (.iload 4, 2) := dk_21 4 (dk_at dksX4_widen_1 11 rfl rfl)
theorem dX4_widen_35 : decode cX4_widen 35 = .ok (.iadd, 1) := dk_96 (dk_at dksX4_widen_1 13 rfl rfl)
theorem dX4_widen_36 : decode cX4_widen 36 = .ok (.aload_n 0, 1) := dk_42 (dk_at dksX4_widen_1 14 rfl rfl)
theorem dX4_widen_37 : decode cX4_widen 37 = .ok (.aload_n 0, 1) := dk_42 (dk_at dksX4_widen_1 15 rfl rfl)
theorem dX4_widen_38 : decode cX4_widen 38 = .ok (.iload_n 1, 1) := dk_27 (dk_at dksX4_widen_1 16 rfl rfl)
theorem dX4_widen_39 : decode cX4_widen 39 = .ok (.iload 4, 2) := dk_21 4 (dk_at dksX4_widen_1 17 rfl rfl)
theorem dX4_widen_41 : decode cX4_widen 41 = .ok (.invokevirtual 97, 3) := dk_182 0 97 (dk_at dksX4_widen_1 19 rfl rfl)
theorem dX4_widen_44 : decode cX4_widen 44 = .ok (.iload_n 3, 1) := dk_29 (dk_at dksX4_widen_1 22 rfl rfl)
theorem dX4_widen_45 : decode cX4_widen 45 = .ok (.iconst (-1), 1) := dk_2 (dk_at dksX4_widen_1 23 rfl rfl)
theorem dX4_widen_46 : decode cX4_widen 46 = .ok (.iload_n 2, 1) := dk_28 (dk_at dksX4_widen_2 0 rfl rfl)
theorem dX4_widen_47 : decode cX4_widen 47 = .ok (.iload 4, 2) := dk_21 4 (dk_at dksX4_widen_2 1 rfl rfl)
theorem dX4_widen_49 : decode cX4_widen 49 = .ok (.invokevirtual 111, 3) := dk_182 0 111 (dk_at dksX4_widen_2 3 rfl rfl)
theorem dX4_widen_52 : decode cX4_widen 52 = .ok (.iastore, 1) := dk_79 (dk_at dksX4_widen_2 6 rfl rfl)
theorem dX4_widen_53 : decode cX4_widen 53 = .ok (.iinc 4 1, 3) := dk_132 4 1 (dk_at dksX4_widen_2 7 rfl rfl)
theorem dX4_widen_56 : decode cX4_widen 56 = .ok (.goto (-46), 3) := dk_167 255 210 (dk_at dksX4_widen_2 10 rfl rfl)
theorem dX4_widen_59 : decode cX4_widen 59 = .ok (.return_, 1) := dk_177 (dk_at dksX4_widen_2 13 rfl rfl)
abbrev cX4_union : ByteArray := prog_17_method_27_code
def yX4_union : MethodName := ⟨RX4, "union", "(IIIII)I"⟩
def dkwX4_union_3 : List UInt8 := [21, 6, 167, 0, 4, 3, 172]
abbrev dktX4_union_3 : List UInt8 := dkwX4_union_3 ++ []
def dkwX4_union_2 : List UInt8 := [160, 0, 14, 42, 21, 4, 21, 5, 182, 0, 108, 167, 0, 4, 29, 54, 7, 21, 6, 21, 7, 160, 0, 8]
abbrev dktX4_union_2 : List UInt8 := dkwX4_union_2 ++ dktX4_union_3
def dkwX4_union_1 : List UInt8 := [2, 172, 27, 2, 160, 0, 13, 42, 28, 21, 5, 182, 0, 108, 167, 0, 4, 27, 54, 6, 29, 2]
abbrev dktX4_union_1 : List UInt8 := dkwX4_union_1 ++ dktX4_union_2
def dkwX4_union_0 : List UInt8 := [27, 2, 160, 0, 24, 29, 2, 160, 0, 19, 42, 28, 21, 5, 21, 4, 21, 5, 182, 0, 100, 153, 0, 5]
abbrev dktX4_union_0 : List UInt8 := dkwX4_union_0 ++ dktX4_union_1
theorem dksX4_union_0 : cX4_union.data.toList.drop 0 = dktX4_union_0 := by decide +kernel
theorem dksX4_union_1 : cX4_union.data.toList.drop 24 = dktX4_union_1 := dk_seg dksX4_union_0 24 rfl rfl
theorem dksX4_union_2 : cX4_union.data.toList.drop 46 = dktX4_union_2 := dk_seg dksX4_union_1 22 rfl rfl
theorem dksX4_union_3 : cX4_union.data.toList.drop 70 = dktX4_union_3 := dk_seg dksX4_union_2 24 rfl rfl
theorem dX4_union_0 : decode cX4_union 0 = .ok (.iload_n 1, 1) := dk_27 (dk_at dksX4_union_0 0 rfl rfl)
theorem dX4_union_1 : decode cX4_union 1 = .ok (.iconst (-1), 1) := dk_2 (dk_at dksX4_union_0 1 rfl rfl)
theorem dX4_union_2 : decode cX4_union 2 = .ok (.if_icmp .ne 24, 3) := dk_160 0 24 (dk_at dksX4_union_0 2 rfl rfl)
theorem dX4_union_5 : decode cX4_union 5 = .ok (.iload_n 3, 1) := dk_29 (dk_at dksX4_union_0 5 rfl rfl)
theorem dX4_union_6 : decode cX4_union 6 = .ok (.iconst (-1), 1) := dk_2 (dk_at dksX4_union_0 6 rfl rfl)
theorem dX4_union_7 : decode cX4_union 7 = .ok (.if_icmp .ne 19, 3) := dk_160 0 19 (dk_at dksX4_union_0 7 rfl rfl)
theorem dX4_union_10 : decode cX4_union 10 = .ok (.aload_n 0, 1) := dk_42 (dk_at dksX4_union_0 10 rfl rfl)
theorem dX4_union_11 : decode cX4_union 11 = .ok (.iload_n 2, 1) := dk_28 (dk_at dksX4_union_0 11 rfl rfl)
theorem dX4_union_12 : decode cX4_union 12 = .ok (.iload 5, 2) := dk_21 5 (dk_at dksX4_union_0 12 rfl rfl)
theorem dX4_union_14 : decode cX4_union 14 = .ok (.iload 4, 2) := dk_21 4 (dk_at dksX4_union_0 14 rfl rfl)
theorem dX4_union_16 : decode cX4_union 16 = .ok (.iload 5, 2) := dk_21 5 (dk_at dksX4_union_0 16 rfl rfl)
theorem dX4_union_18 : decode cX4_union 18 = .ok (.invokevirtual 100, 3) := dk_182 0 100 (dk_at dksX4_union_0 18 rfl rfl)
theorem dX4_union_21 : decode cX4_union 21 = .ok (.ifCond .eq 5, 3) := dk_153 0 5 (dk_at dksX4_union_0 21 rfl rfl)
theorem dX4_union_24 : decode cX4_union 24 = .ok (.iconst (-1), 1) := dk_2 (dk_at dksX4_union_1 0 rfl rfl)
theorem dX4_union_25 : decode cX4_union 25 = .ok (.ireturn, 1) := dk_172 (dk_at dksX4_union_1 1 rfl rfl)
theorem dX4_union_26 : decode cX4_union 26 = .ok (.iload_n 1, 1) := dk_27 (dk_at dksX4_union_1 2 rfl rfl)
theorem dX4_union_27 : decode cX4_union 27 = .ok (.iconst (-1), 1) := dk_2 (dk_at dksX4_union_1 3 rfl rfl)
theorem dX4_union_28 : decode cX4_union 28 = .ok (.if_icmp .ne 13, 3) := dk_160 0 13 (dk_at dksX4_union_1 4 rfl rfl)
theorem dX4_union_31 : decode cX4_union 31 = .ok (.aload_n 0, 1) := dk_42 (dk_at dksX4_union_1 7 rfl rfl)
theorem dX4_union_32 : decode cX4_union 32 = .ok (.iload_n 2, 1) := dk_28 (dk_at dksX4_union_1 8 rfl rfl)
theorem dX4_union_33 : decode cX4_union 33 = .ok (.iload 5, 2) := dk_21 5 (dk_at dksX4_union_1 9 rfl rfl)
theorem dX4_union_35 : decode cX4_union 35 = .ok (.invokevirtual 108, 3) := dk_182 0 108 (dk_at dksX4_union_1 11 rfl rfl)
theorem dX4_union_38 : decode cX4_union 38 = .ok (.goto 4, 3) := dk_167 0 4 (dk_at dksX4_union_1 14 rfl rfl)
theorem dX4_union_41 : decode cX4_union 41 = .ok (.iload_n 1, 1) := dk_27 (dk_at dksX4_union_1 17 rfl rfl)
theorem dX4_union_42 : decode cX4_union 42 = .ok (.istore 6, 2) := dk_54 6 (dk_at dksX4_union_1 18 rfl rfl)
theorem dX4_union_44 : decode cX4_union 44 = .ok (.iload_n 3, 1) := dk_29 (dk_at dksX4_union_1 20 rfl rfl)
theorem dX4_union_45 : decode cX4_union 45 = .ok (.iconst (-1), 1) := dk_2 (dk_at dksX4_union_1 21 rfl rfl)
theorem dX4_union_46 : decode cX4_union 46 = .ok (.if_icmp .ne 14, 3) := dk_160 0 14 (dk_at dksX4_union_2 0 rfl rfl)
theorem dX4_union_49 : decode cX4_union 49 = .ok (.aload_n 0, 1) := dk_42 (dk_at dksX4_union_2 3 rfl rfl)
theorem dX4_union_50 : decode cX4_union 50 = .ok (.iload 4, 2) := dk_21 4 (dk_at dksX4_union_2 4 rfl rfl)
theorem dX4_union_52 : decode cX4_union 52 = .ok (.iload 5, 2) := dk_21 5 (dk_at dksX4_union_2 6 rfl rfl)
theorem dX4_union_54 : decode cX4_union 54 = .ok (.invokevirtual 108, 3) := dk_182 0 108 (dk_at dksX4_union_2 8 rfl rfl)
theorem dX4_union_57 : decode cX4_union 57 = .ok (.goto 4, 3) := dk_167 0 4 (dk_at dksX4_union_2 11 rfl rfl)
theorem dX4_union_60 : decode cX4_union 60 = .ok (.iload_n 3, 1) := dk_29 (dk_at dksX4_union_2 14 rfl rfl)
theorem dX4_union_61 : decode cX4_union 61 = .ok (.istore 7, 2) := dk_54 7 (dk_at dksX4_union_2 15 rfl rfl)
theorem dX4_union_63 : decode cX4_union 63 = .ok (.iload 6, 2) := dk_21 6 (dk_at dksX4_union_2 17 rfl rfl)
theorem dX4_union_65 : decode cX4_union 65 = .ok (.iload 7, 2) := dk_21 7 (dk_at dksX4_union_2 19 rfl rfl)
theorem dX4_union_67 : decode cX4_union 67 = .ok (.if_icmp .ne 8, 3) := dk_160 0 8 (dk_at dksX4_union_2 21 rfl rfl)
theorem dX4_union_70 : decode cX4_union 70 = .ok (.iload 6, 2) := dk_21 6 (dk_at dksX4_union_3 0 rfl rfl)
theorem dX4_union_72 : decode cX4_union 72 = .ok (.goto 4, 3) := dk_167 0 4 (dk_at dksX4_union_3 2 rfl rfl)
theorem dX4_union_75 : decode cX4_union 75 = .ok (.iconst 0, 1) := dk_3 (dk_at dksX4_union_3 5 rfl rfl)
theorem dX4_union_76 : decode cX4_union 76 = .ok (.ireturn, 1) := dk_172 (dk_at dksX4_union_3 6 rfl rfl)
abbrev cX4_line : ByteArray := prog_17_method_35_code
def yX4_line : MethodName := ⟨RX4, "line", "(II)I"⟩
def dkwX4_line_2 : List UInt8 := [167, 0, 9, 42, 27, 28, 182, 0, 67, 172]
abbrev dktX4_line_2 : List UInt8 := dkwX4_line_2 ++ []
def dkwX4_line_1 : List UInt8 := [184, 0, 59, 154, 0, 9, 42, 4, 182, 0, 122, 172, 28, 2, 160, 0, 11, 42, 27, 182, 0, 63]
abbrev dktX4_line_1 : List UInt8 := dkwX4_line_1 ++ dktX4_line_2
def dkwX4_line_0 : List UInt8 := [42, 3, 181, 0, 55, 42, 27, 182, 0, 152, 153, 0, 18, 28, 2, 42, 27, 182, 0, 63, 4, 100]
abbrev dktX4_line_0 : List UInt8 := dkwX4_line_0 ++ dktX4_line_1
theorem dksX4_line_0 : cX4_line.data.toList.drop 0 = dktX4_line_0 := by decide +kernel
theorem dksX4_line_1 : cX4_line.data.toList.drop 22 = dktX4_line_1 := dk_seg dksX4_line_0 22 rfl rfl
theorem dksX4_line_2 : cX4_line.data.toList.drop 44 = dktX4_line_2 := dk_seg dksX4_line_1 22 rfl rfl
theorem dX4_line_0 : decode cX4_line 0 = .ok (.aload_n 0, 1) := dk_42 (dk_at dksX4_line_0 0 rfl rfl)
theorem dX4_line_1 : decode cX4_line 1 = .ok (.iconst 0, 1) := dk_3 (dk_at dksX4_line_0 1 rfl rfl)
theorem dX4_line_2 : decode cX4_line 2 = .ok (.putfield 55, 3) := dk_181 0 55 (dk_at dksX4_line_0 2 rfl rfl)
theorem dX4_line_5 : decode cX4_line 5 = .ok (.aload_n 0, 1) := dk_42 (dk_at dksX4_line_0 5 rfl rfl)
theorem dX4_line_6 : decode cX4_line 6 = .ok (.iload_n 1, 1) := dk_27 (dk_at dksX4_line_0 6 rfl rfl)
theorem dX4_line_7 : decode cX4_line 7 = .ok (.invokevirtual 152, 3) := dk_182 0 152 (dk_at dksX4_line_0 7 rfl rfl)
theorem dX4_line_10 : decode cX4_line 10 = .ok (.ifCond .eq 18, 3) := dk_153 0 18 (dk_at dksX4_line_0 10 rfl rfl)
theorem dX4_line_13 : decode cX4_line 13 = .ok (.iload_n 2, 1) := dk_28 (dk_at dksX4_line_0 13 rfl rfl)
theorem dX4_line_14 : decode cX4_line 14 = .ok (.iconst (-1), 1) := dk_2 (dk_at dksX4_line_0 14 rfl rfl)
theorem dX4_line_15 : decode cX4_line 15 = .ok (.aload_n 0, 1) := dk_42 (dk_at dksX4_line_0 15 rfl rfl)
theorem dX4_line_16 : decode cX4_line 16 = .ok (.iload_n 1, 1) := dk_27 (dk_at dksX4_line_0 16 rfl rfl)
theorem dX4_line_17 : decode cX4_line 17 = .ok (.invokevirtual 63, 3) := dk_182 0 63 (dk_at dksX4_line_0 17 rfl rfl)
theorem dX4_line_20 : decode cX4_line 20 = .ok (.iconst 1, 1) := dk_4 (dk_at dksX4_line_0 20 rfl rfl)
theorem dX4_line_21 : decode cX4_line 21 = .ok (.isub, 1) := dk_100 (dk_at dksX4_line_0 21 rfl rfl)
theorem dX4_line_22 : decode cX4_line 22 = .ok (.invokestatic 59, 3) := dk_184 0 59 (dk_at dksX4_line_1 0 rfl rfl)
theorem dX4_line_25 : decode cX4_line 25 = .ok (.ifCond .ne 9, 3) := dk_154 0 9 (dk_at dksX4_line_1 3 rfl rfl)
theorem dX4_line_28 : decode cX4_line 28 = .ok (.aload_n 0, 1) := dk_42 (dk_at dksX4_line_1 6 rfl rfl)
theorem dX4_line_29 : decode cX4_line 29 = .ok (.iconst 1, 1) := dk_4 (dk_at dksX4_line_1 7 rfl rfl)
theorem dX4_line_30 : decode cX4_line 30 = .ok (.invokevirtual 122, 3) := dk_182 0 122 (dk_at dksX4_line_1 8 rfl rfl)
theorem dX4_line_33 : decode cX4_line 33 = .ok (.ireturn, 1) := dk_172 (dk_at dksX4_line_1 11 rfl rfl)
theorem dX4_line_34 : decode cX4_line 34 = .ok (.iload_n 2, 1) := dk_28 (dk_at dksX4_line_1 12 rfl rfl)
theorem dX4_line_35 : decode cX4_line 35 = .ok (.iconst (-1), 1) := dk_2 (dk_at dksX4_line_1 13 rfl rfl)
theorem dX4_line_36 : decode cX4_line 36 = .ok (.if_icmp .ne 11, 3) := dk_160 0 11 (dk_at dksX4_line_1 14 rfl rfl)
theorem dX4_line_39 : decode cX4_line 39 = .ok (.aload_n 0, 1) := dk_42 (dk_at dksX4_line_1 17 rfl rfl)
theorem dX4_line_40 : decode cX4_line 40 = .ok (.iload_n 1, 1) := dk_27 (dk_at dksX4_line_1 18 rfl rfl)
theorem dX4_line_41 : decode cX4_line 41 = .ok (.invokevirtual 63, 3) := dk_182 0 63 (dk_at dksX4_line_1 19 rfl rfl)
theorem dX4_line_44 : decode cX4_line 44 = .ok (.goto 9, 3) := dk_167 0 9 (dk_at dksX4_line_2 0 rfl rfl)
theorem dX4_line_47 : decode cX4_line 47 = .ok (.aload_n 0, 1) := dk_42 (dk_at dksX4_line_2 3 rfl rfl)
theorem dX4_line_48 : decode cX4_line 48 = .ok (.iload_n 1, 1) := dk_27 (dk_at dksX4_line_2 4 rfl rfl)
theorem dX4_line_49 : decode cX4_line 49 = .ok (.iload_n 2, 1) := dk_28 (dk_at dksX4_line_2 5 rfl rfl)
theorem dX4_line_50 : decode cX4_line 50 = .ok (.invokevirtual 67, 3) := dk_182 0 67 (dk_at dksX4_line_2 6 rfl rfl)
theorem dX4_line_53 : decode cX4_line 53 = .ok (.ireturn, 1) := dk_172 (dk_at dksX4_line_2 9 rfl rfl)
abbrev cX4_isLine : ByteArray := prog_17_method_5_code
def yX4_isLine : MethodName := ⟨RX4, "isLine", "(I)Z"⟩
def dkwX4_isLine_0 : List UInt8 := [27, 3, 42, 180, 0, 9, 3, 46, 4, 100, 184, 0, 59, 172]
abbrev dktX4_isLine_0 : List UInt8 := dkwX4_isLine_0 ++ []
theorem dksX4_isLine_0 : cX4_isLine.data.toList.drop 0 = dktX4_isLine_0 := by decide +kernel
theorem dX4_isLine_0 : decode cX4_isLine 0 = .ok (.iload_n 1, 1) := dk_27 (dk_at dksX4_isLine_0 0 rfl rfl)
theorem dX4_isLine_1 : decode cX4_isLine 1 = .ok (.iconst 0, 1) := dk_3 (dk_at dksX4_isLine_0 1 rfl rfl)
theorem dX4_isLine_2 : decode cX4_isLine 2 = .ok (.aload_n 0, 1) := dk_42 (dk_at dksX4_isLine_0 2 rfl rfl)
theorem dX4_isLine_3 : decode cX4_isLine 3 = .ok (.getfield 9, 3) := dk_180 0 9 (dk_at dksX4_isLine_0 3 rfl rfl)
theorem dX4_isLine_6 : decode cX4_isLine 6 = .ok (.iconst 0, 1) := dk_3 (dk_at dksX4_isLine_0 6 rfl rfl)
theorem dX4_isLine_7 : decode cX4_isLine 7 = .ok (.iaload, 1) := dk_46 (dk_at dksX4_isLine_0 7 rfl rfl)
theorem dX4_isLine_8 : decode cX4_isLine 8 = .ok (.iconst 1, 1) := dk_4 (dk_at dksX4_isLine_0 8 rfl rfl)
theorem dX4_isLine_9 : decode cX4_isLine 9 = .ok (.isub, 1) := dk_100 (dk_at dksX4_isLine_0 9 rfl rfl)
theorem dX4_isLine_10 : decode cX4_isLine 10 = .ok (.invokestatic 59, 3) := dk_184 0 59 (dk_at dksX4_isLine_0 10 rfl rfl)
theorem dX4_isLine_13 : decode cX4_isLine 13 = .ok (.ireturn, 1) := dk_172 (dk_at dksX4_isLine_0 13 rfl rfl)
abbrev cX4_place : ByteArray := prog_17_method_36_code
def yX4_place : MethodName := ⟨RX4, "place", "(II)I"⟩
def dkwX4_place_5 : List UInt8 := [46, 167, 0, 9, 42, 29, 27, 182, 0, 131, 172]
abbrev dktX4_place_5 : List UInt8 := dkwX4_place_5 ++ []
def dkwX4_place_4 : List UInt8 := [29, 167, 0, 33, 28, 4, 160, 0, 8, 21, 4, 167, 0, 23, 28, 5, 160, 0, 12, 42, 180, 0, 22, 27]
abbrev dktX4_place_4 : List UInt8 := dkwX4_place_4 ++ dktX4_place_5
def dkwX4_place_3 : List UInt8 := [96, 46, 29, 160, 0, 7, 4, 167, 0, 4, 3, 96, 54, 4, 132, 5, 1, 167, 255, 223, 28, 154, 0, 7]
abbrev dktX4_place_3 : List UInt8 := dkwX4_place_3 ++ dktX4_place_4
def dkwX4_place_2 : List UInt8 := [46, 62, 3, 54, 4, 3, 54, 5, 21, 5, 27, 162, 0, 33, 21, 4, 42, 180, 0, 9, 16, 43, 21, 5]
abbrev dktX4_place_2 : List UInt8 := dkwX4_place_2 ++ dktX4_place_3
def dkwX4_place_1 : List UInt8 := [167, 0, 4, 3, 181, 0, 55, 42, 180, 0, 55, 158, 0, 5, 3, 172, 42, 180, 0, 9, 16, 43, 27, 96]
abbrev dktX4_place_1 : List UInt8 := dkwX4_place_1 ++ dktX4_place_2
def dkwX4_place_0 : List UInt8 := [42, 42, 27, 182, 0, 152, 154, 0, 7, 4, 167, 0, 17, 28, 3, 6, 184, 0, 59, 154, 0, 7, 5]
abbrev dktX4_place_0 : List UInt8 := dkwX4_place_0 ++ dktX4_place_1
theorem dksX4_place_0 : cX4_place.data.toList.drop 0 = dktX4_place_0 := by decide +kernel
theorem dksX4_place_1 : cX4_place.data.toList.drop 23 = dktX4_place_1 := dk_seg dksX4_place_0 23 rfl rfl
theorem dksX4_place_2 : cX4_place.data.toList.drop 47 = dktX4_place_2 := dk_seg dksX4_place_1 24 rfl rfl
theorem dksX4_place_3 : cX4_place.data.toList.drop 71 = dktX4_place_3 := dk_seg dksX4_place_2 24 rfl rfl
theorem dksX4_place_4 : cX4_place.data.toList.drop 95 = dktX4_place_4 := dk_seg dksX4_place_3 24 rfl rfl
theorem dksX4_place_5 : cX4_place.data.toList.drop 119 = dktX4_place_5 := dk_seg dksX4_place_4 24 rfl rfl
theorem dX4_place_0 : decode cX4_place 0 = .ok (.aload_n 0, 1) := dk_42 (dk_at dksX4_place_0 0 rfl rfl)
theorem dX4_place_1 : decode cX4_place 1 = .ok (.aload_n 0, 1) := dk_42 (dk_at dksX4_place_0 1 rfl rfl)
theorem dX4_place_2 : decode cX4_place 2 = .ok (.iload_n 1, 1) := dk_27 (dk_at dksX4_place_0 2 rfl rfl)
theorem dX4_place_3 : decode cX4_place 3 = .ok (.invokevirtual 152, 3) := dk_182 0 152 (dk_at dksX4_place_0 3 rfl rfl)
theorem dX4_place_6 : decode cX4_place 6 = .ok (.ifCond .ne 7, 3) := dk_154 0 7 (dk_at dksX4_place_0 6 rfl rfl)
theorem dX4_place_9 : decode cX4_place 9 = .ok (.iconst 1, 1) := dk_4 (dk_at dksX4_place_0 9 rfl rfl)
theorem dX4_place_10 : decode cX4_place 10 = .ok (.goto 17, 3) := dk_167 0 17 (dk_at dksX4_place_0 10 rfl rfl)
theorem dX4_place_13 : decode cX4_place 13 = .ok (.iload_n 2, 1) := dk_28 (dk_at dksX4_place_0 13 rfl rfl)
theorem dX4_place_14 : decode cX4_place 14 = .ok (.iconst 0, 1) := dk_3 (dk_at dksX4_place_0 14 rfl rfl)
theorem dX4_place_15 : decode cX4_place 15 = .ok (.iconst 3, 1) := dk_6 (dk_at dksX4_place_0 15 rfl rfl)
theorem dX4_place_16 : decode cX4_place 16 = .ok (.invokestatic 59, 3) := dk_184 0 59 (dk_at dksX4_place_0 16 rfl rfl)
theorem dX4_place_19 : decode cX4_place 19 = .ok (.ifCond .ne 7, 3) := dk_154 0 7 (dk_at dksX4_place_0 19 rfl rfl)
theorem dX4_place_22 : decode cX4_place 22 = .ok (.iconst 2, 1) := dk_5 (dk_at dksX4_place_0 22 rfl rfl)
theorem dX4_place_23 : decode cX4_place 23 = .ok (.goto 4, 3) := dk_167 0 4 (dk_at dksX4_place_1 0 rfl rfl)
theorem dX4_place_26 : decode cX4_place 26 = .ok (.iconst 0, 1) := dk_3 (dk_at dksX4_place_1 3 rfl rfl)
theorem dX4_place_27 : decode cX4_place 27 = .ok (.putfield 55, 3) := dk_181 0 55 (dk_at dksX4_place_1 4 rfl rfl)
theorem dX4_place_30 : decode cX4_place 30 = .ok (.aload_n 0, 1) := dk_42 (dk_at dksX4_place_1 7 rfl rfl)
theorem dX4_place_31 : decode cX4_place 31 = .ok (.getfield 55, 3) := dk_180 0 55 (dk_at dksX4_place_1 8 rfl rfl)
theorem dX4_place_34 : decode cX4_place 34 = .ok (.ifCond .le 5, 3) := dk_158 0 5 (dk_at dksX4_place_1 11 rfl rfl)
theorem dX4_place_37 : decode cX4_place 37 = .ok (.iconst 0, 1) := dk_3 (dk_at dksX4_place_1 14 rfl rfl)
theorem dX4_place_38 : decode cX4_place 38 = .ok (.ireturn, 1) := dk_172 (dk_at dksX4_place_1 15 rfl rfl)
theorem dX4_place_39 : decode cX4_place 39 = .ok (.aload_n 0, 1) := dk_42 (dk_at dksX4_place_1 16 rfl rfl)
theorem dX4_place_40 : decode cX4_place 40 = .ok (.getfield 9, 3) := dk_180 0 9 (dk_at dksX4_place_1 17 rfl rfl)
theorem dX4_place_43 : decode cX4_place 43 = .ok (.bipush 43, 2) := dk_16 43 (dk_at dksX4_place_1 20 rfl rfl)
theorem dX4_place_45 : decode cX4_place 45 = .ok (.iload_n 1, 1) := dk_27 (dk_at dksX4_place_1 22 rfl rfl)
theorem dX4_place_46 : decode cX4_place 46 = .ok (.iadd, 1) := dk_96 (dk_at dksX4_place_1 23 rfl rfl)
theorem dX4_place_47 : decode cX4_place 47 = .ok (.iaload, 1) := dk_46 (dk_at dksX4_place_2 0 rfl rfl)
theorem dX4_place_48 : decode cX4_place 48 = .ok (.istore_n 3, 1) := dk_62 (dk_at dksX4_place_2 1 rfl rfl)
theorem dX4_place_49 : decode cX4_place 49 = .ok (.iconst 0, 1) := dk_3 (dk_at dksX4_place_2 2 rfl rfl)
theorem dX4_place_50 : decode cX4_place 50 = .ok (.istore 4, 2) := dk_54 4 (dk_at dksX4_place_2 3 rfl rfl)
theorem dX4_place_52 : decode cX4_place 52 = .ok (.iconst 0, 1) := dk_3 (dk_at dksX4_place_2 5 rfl rfl)
theorem dX4_place_53 : decode cX4_place 53 = .ok (.istore 5, 2) := dk_54 5 (dk_at dksX4_place_2 6 rfl rfl)
theorem dX4_place_55 : decode cX4_place 55 = .ok (.iload 5, 2) := dk_21 5 (dk_at dksX4_place_2 8 rfl rfl)
theorem dX4_place_57 : decode cX4_place 57 = .ok (.iload_n 1, 1) := dk_27 (dk_at dksX4_place_2 10 rfl rfl)
theorem dX4_place_58 : decode cX4_place 58 = .ok (.if_icmp .ge 33, 3) := dk_162 0 33 (dk_at dksX4_place_2 11 rfl rfl)
theorem dX4_place_61 : decode cX4_place 61 = .ok (.iload 4, 2) := dk_21 4 (dk_at dksX4_place_2 14 rfl rfl)
theorem dX4_place_63 : decode cX4_place 63 = .ok (.aload_n 0, 1) := dk_42 (dk_at dksX4_place_2 16 rfl rfl)
theorem dX4_place_64 : decode cX4_place 64 = .ok (.getfield 9, 3) := dk_180 0 9 (dk_at dksX4_place_2 17 rfl rfl)
theorem dX4_place_67 : decode cX4_place 67 = .ok (.bipush 43, 2) := dk_16 43 (dk_at dksX4_place_2 20 rfl rfl)
theorem dX4_place_69 : decode cX4_place 69 = .ok (.iload 5, 2) := dk_21 5 (dk_at dksX4_place_2 22 rfl rfl)
theorem dX4_place_71 : decode cX4_place 71 = .ok (.iadd, 1) := dk_96 (dk_at dksX4_place_3 0 rfl rfl)
theorem dX4_place_72 : decode cX4_place 72 = .ok (.iaload, 1) := dk_46 (dk_at dksX4_place_3 1 rfl rfl)
theorem dX4_place_73 : decode cX4_place 73 = .ok (.iload_n 3, 1) := dk_29 (dk_at dksX4_place_3 2 rfl rfl)
theorem dX4_place_74 : decode cX4_place 74 = .ok (.if_icmp .ne 7, 3) := dk_160 0 7 (dk_at dksX4_place_3 3 rfl rfl)
theorem dX4_place_77 : decode cX4_place 77 = .ok (.iconst 1, 1) := dk_4 (dk_at dksX4_place_3 6 rfl rfl)
theorem dX4_place_78 : decode cX4_place 78 = .ok (.goto 4, 3) := dk_167 0 4 (dk_at dksX4_place_3 7 rfl rfl)
theorem dX4_place_81 : decode cX4_place 81 = .ok (.iconst 0, 1) := dk_3 (dk_at dksX4_place_3 10 rfl rfl)
theorem dX4_place_82 : decode cX4_place 82 = .ok (.iadd, 1) := dk_96 (dk_at dksX4_place_3 11 rfl rfl)
theorem dX4_place_83 : decode cX4_place 83 = .ok (.istore 4, 2) := dk_54 4 (dk_at dksX4_place_3 12 rfl rfl)
theorem dX4_place_85 : decode cX4_place 85 = .ok (.iinc 5 1, 3) := dk_132 5 1 (dk_at dksX4_place_3 14 rfl rfl)
theorem dX4_place_88 : decode cX4_place 88 = .ok (.goto (-33), 3) := dk_167 255 223 (dk_at dksX4_place_3 17 rfl rfl)
theorem dX4_place_91 : decode cX4_place 91 = .ok (.iload_n 2, 1) := dk_28 (dk_at dksX4_place_3 20 rfl rfl)
theorem dX4_place_92 : decode cX4_place 92 = .ok (.ifCond .ne 7, 3) := dk_154 0 7 (dk_at dksX4_place_3 21 rfl rfl)
theorem dX4_place_95 : decode cX4_place 95 = .ok (.iload_n 3, 1) := dk_29 (dk_at dksX4_place_4 0 rfl rfl)
theorem dX4_place_96 : decode cX4_place 96 = .ok (.goto 33, 3) := dk_167 0 33 (dk_at dksX4_place_4 1 rfl rfl)
theorem dX4_place_99 : decode cX4_place 99 = .ok (.iload_n 2, 1) := dk_28 (dk_at dksX4_place_4 4 rfl rfl)
theorem dX4_place_100 : decode cX4_place 100 = .ok (.iconst 1, 1) := dk_4 (dk_at dksX4_place_4 5 rfl rfl)
theorem dX4_place_101 : decode cX4_place 101 = .ok (.if_icmp .ne 8, 3) := dk_160 0 8 (dk_at dksX4_place_4 6 rfl rfl)
theorem dX4_place_104 : decode cX4_place 104 = .ok (.iload 4, 2) := dk_21 4 (dk_at dksX4_place_4 9 rfl rfl)
theorem dX4_place_106 : decode cX4_place 106 = .ok (.goto 23, 3) := dk_167 0 23 (dk_at dksX4_place_4 11 rfl rfl)
theorem dX4_place_109 : decode cX4_place 109 = .ok (.iload_n 2, 1) := dk_28 (dk_at dksX4_place_4 14 rfl rfl)
theorem dX4_place_110 : decode cX4_place 110 = .ok (.iconst 2, 1) := dk_5 (dk_at dksX4_place_4 15 rfl rfl)
theorem dX4_place_111 : decode cX4_place 111 = .ok (.if_icmp .ne 12, 3) := dk_160 0 12 (dk_at dksX4_place_4 16 rfl rfl)
theorem dX4_place_114 : decode cX4_place 114 = .ok (.aload_n 0, 1) := dk_42 (dk_at dksX4_place_4 19 rfl rfl)
theorem dX4_place_115 : decode cX4_place 115 = .ok (.getfield 22, 3) := dk_180 0 22 (dk_at dksX4_place_4 20 rfl rfl)
theorem dX4_place_118 : decode cX4_place 118 = .ok (.iload_n 1, 1) := dk_27 (dk_at dksX4_place_4 23 rfl rfl)
theorem dX4_place_119 : decode cX4_place 119 = .ok (.iaload, 1) := dk_46 (dk_at dksX4_place_5 0 rfl rfl)
theorem dX4_place_120 : decode cX4_place 120 = .ok (.goto 9, 3) := dk_167 0 9 (dk_at dksX4_place_5 1 rfl rfl)
theorem dX4_place_123 : decode cX4_place 123 = .ok (.aload_n 0, 1) := dk_42 (dk_at dksX4_place_5 4 rfl rfl)
theorem dX4_place_124 : decode cX4_place 124 = .ok (.iload_n 3, 1) := dk_29 (dk_at dksX4_place_5 5 rfl rfl)
theorem dX4_place_125 : decode cX4_place 125 = .ok (.iload_n 1, 1) := dk_27 (dk_at dksX4_place_5 6 rfl rfl)
theorem dX4_place_126 : decode cX4_place 126 = .ok (.invokevirtual 131, 3) := dk_182 0 131 (dk_at dksX4_place_5 7 rfl rfl)
theorem dX4_place_129 : decode cX4_place 129 = .ok (.ireturn, 1) := dk_172 (dk_at dksX4_place_5 10 rfl rfl)
abbrev cX4_cut : ByteArray := prog_17_method_37_code
def yX4_cut : MethodName := ⟨RX4, "cut", "(I)I"⟩
def dkwX4_cut_1 : List UInt8 := [180, 0, 9, 3, 46, 27, 100, 61, 42, 180, 0, 9, 3, 27, 79, 28, 172]
abbrev dktX4_cut_1 : List UInt8 := dkwX4_cut_1 ++ []
def dkwX4_cut_0 : List UInt8 := [42, 3, 181, 0, 55, 42, 27, 182, 0, 152, 154, 0, 9, 42, 4, 182, 0, 122, 172, 42, 182, 0, 145, 42]
abbrev dktX4_cut_0 : List UInt8 := dkwX4_cut_0 ++ dktX4_cut_1
theorem dksX4_cut_0 : cX4_cut.data.toList.drop 0 = dktX4_cut_0 := by decide +kernel
theorem dksX4_cut_1 : cX4_cut.data.toList.drop 24 = dktX4_cut_1 := dk_seg dksX4_cut_0 24 rfl rfl
theorem dX4_cut_0 : decode cX4_cut 0 = .ok (.aload_n 0, 1) := dk_42 (dk_at dksX4_cut_0 0 rfl rfl)
theorem dX4_cut_1 : decode cX4_cut 1 = .ok (.iconst 0, 1) := dk_3 (dk_at dksX4_cut_0 1 rfl rfl)
theorem dX4_cut_2 : decode cX4_cut 2 = .ok (.putfield 55, 3) := dk_181 0 55 (dk_at dksX4_cut_0 2 rfl rfl)
theorem dX4_cut_5 : decode cX4_cut 5 = .ok (.aload_n 0, 1) := dk_42 (dk_at dksX4_cut_0 5 rfl rfl)
theorem dX4_cut_6 : decode cX4_cut 6 = .ok (.iload_n 1, 1) := dk_27 (dk_at dksX4_cut_0 6 rfl rfl)
theorem dX4_cut_7 : decode cX4_cut 7 = .ok (.invokevirtual 152, 3) := dk_182 0 152 (dk_at dksX4_cut_0 7 rfl rfl)
theorem dX4_cut_10 : decode cX4_cut 10 = .ok (.ifCond .ne 9, 3) := dk_154 0 9 (dk_at dksX4_cut_0 10 rfl rfl)
theorem dX4_cut_13 : decode cX4_cut 13 = .ok (.aload_n 0, 1) := dk_42 (dk_at dksX4_cut_0 13 rfl rfl)
theorem dX4_cut_14 : decode cX4_cut 14 = .ok (.iconst 1, 1) := dk_4 (dk_at dksX4_cut_0 14 rfl rfl)
theorem dX4_cut_15 : decode cX4_cut 15 = .ok (.invokevirtual 122, 3) := dk_182 0 122 (dk_at dksX4_cut_0 15 rfl rfl)
theorem dX4_cut_18 : decode cX4_cut 18 = .ok (.ireturn, 1) := dk_172 (dk_at dksX4_cut_0 18 rfl rfl)
theorem dX4_cut_19 : decode cX4_cut 19 = .ok (.aload_n 0, 1) := dk_42 (dk_at dksX4_cut_0 19 rfl rfl)
theorem dX4_cut_20 : decode cX4_cut 20 = .ok (.invokevirtual 145, 3) := dk_182 0 145 (dk_at dksX4_cut_0 20 rfl rfl)
theorem dX4_cut_23 : decode cX4_cut 23 = .ok (.aload_n 0, 1) := dk_42 (dk_at dksX4_cut_0 23 rfl rfl)
theorem dX4_cut_24 : decode cX4_cut 24 = .ok (.getfield 9, 3) := dk_180 0 9 (dk_at dksX4_cut_1 0 rfl rfl)
theorem dX4_cut_27 : decode cX4_cut 27 = .ok (.iconst 0, 1) := dk_3 (dk_at dksX4_cut_1 3 rfl rfl)
theorem dX4_cut_28 : decode cX4_cut 28 = .ok (.iaload, 1) := dk_46 (dk_at dksX4_cut_1 4 rfl rfl)
theorem dX4_cut_29 : decode cX4_cut 29 = .ok (.iload_n 1, 1) := dk_27 (dk_at dksX4_cut_1 5 rfl rfl)
theorem dX4_cut_30 : decode cX4_cut 30 = .ok (.isub, 1) := dk_100 (dk_at dksX4_cut_1 6 rfl rfl)
theorem dX4_cut_31 : decode cX4_cut 31 = .ok (.istore_n 2, 1) := dk_61 (dk_at dksX4_cut_1 7 rfl rfl)
theorem dX4_cut_32 : decode cX4_cut 32 = .ok (.aload_n 0, 1) := dk_42 (dk_at dksX4_cut_1 8 rfl rfl)
theorem dX4_cut_33 : decode cX4_cut 33 = .ok (.getfield 9, 3) := dk_180 0 9 (dk_at dksX4_cut_1 9 rfl rfl)
theorem dX4_cut_36 : decode cX4_cut 36 = .ok (.iconst 0, 1) := dk_3 (dk_at dksX4_cut_1 12 rfl rfl)
theorem dX4_cut_37 : decode cX4_cut 37 = .ok (.iload_n 1, 1) := dk_27 (dk_at dksX4_cut_1 13 rfl rfl)
theorem dX4_cut_38 : decode cX4_cut 38 = .ok (.iastore, 1) := dk_79 (dk_at dksX4_cut_1 14 rfl rfl)
theorem dX4_cut_39 : decode cX4_cut 39 = .ok (.iload_n 2, 1) := dk_28 (dk_at dksX4_cut_1 15 rfl rfl)
theorem dX4_cut_40 : decode cX4_cut 40 = .ok (.ireturn, 1) := dk_172 (dk_at dksX4_cut_1 16 rfl rfl)
abbrev cX4_setThreshold : ByteArray := prog_17_method_38_code
def yX4_setThreshold : MethodName := ⟨RX4, "setThreshold", "(I)I"⟩
def dkwX4_setThreshold_1 : List UInt8 := [182, 0, 145, 42, 180, 0, 9, 4, 46, 61, 42, 180, 0, 9, 4, 27, 79, 28, 172]
abbrev dktX4_setThreshold_1 : List UInt8 := dkwX4_setThreshold_1 ++ []
def dkwX4_setThreshold_0 : List UInt8 := [42, 3, 181, 0, 55, 27, 3, 16, 100, 184, 0, 59, 154, 0, 9, 42, 4, 182, 0, 122, 172, 42]
abbrev dktX4_setThreshold_0 : List UInt8 := dkwX4_setThreshold_0 ++ dktX4_setThreshold_1
theorem dksX4_setThreshold_0 : cX4_setThreshold.data.toList.drop 0 = dktX4_setThreshold_0 := by decide +kernel
theorem dksX4_setThreshold_1 : cX4_setThreshold.data.toList.drop 22 = dktX4_setThreshold_1 := dk_seg dksX4_setThreshold_0 22 rfl rfl
theorem dX4_setThreshold_0 : decode cX4_setThreshold 0 = .ok (.aload_n 0, 1) := dk_42 (dk_at dksX4_setThreshold_0 0 rfl rfl)
theorem dX4_setThreshold_1 : decode cX4_setThreshold 1 = .ok (.iconst 0, 1) := dk_3 (dk_at dksX4_setThreshold_0 1 rfl rfl)
theorem dX4_setThreshold_2 : decode cX4_setThreshold 2 = .ok (.putfield 55, 3) := dk_181 0 55 (dk_at dksX4_setThreshold_0 2 rfl rfl)
theorem dX4_setThreshold_5 : decode cX4_setThreshold 5 = .ok (.iload_n 1, 1) := dk_27 (dk_at dksX4_setThreshold_0 5 rfl rfl)
theorem dX4_setThreshold_6 : decode cX4_setThreshold 6 = .ok (.iconst 0, 1) := dk_3 (dk_at dksX4_setThreshold_0 6 rfl rfl)
theorem dX4_setThreshold_7 : decode cX4_setThreshold 7 = .ok (.bipush 100, 2) := dk_16 100 (dk_at dksX4_setThreshold_0 7 rfl rfl)
theorem dX4_setThreshold_9 : decode cX4_setThreshold 9 = .ok (.invokestatic 59, 3) := dk_184 0 59 (dk_at dksX4_setThreshold_0 9 rfl rfl)
theorem dX4_setThreshold_12 : decode cX4_setThreshold 12 = .ok (.ifCond .ne 9, 3) := dk_154 0 9 (dk_at dksX4_setThreshold_0 12 rfl rfl)
theorem dX4_setThreshold_15 : decode cX4_setThreshold 15 = .ok (.aload_n 0, 1) := dk_42 (dk_at dksX4_setThreshold_0 15 rfl rfl)
theorem dX4_setThreshold_16 : decode cX4_setThreshold 16 = .ok (.iconst 1, 1) := dk_4 (dk_at dksX4_setThreshold_0 16 rfl rfl)
theorem dX4_setThreshold_17 : decode cX4_setThreshold 17 = .ok (.invokevirtual 122, 3) := dk_182 0 122 (dk_at dksX4_setThreshold_0 17 rfl rfl)
theorem dX4_setThreshold_20 : decode cX4_setThreshold 20 = .ok (.ireturn, 1) := dk_172 (dk_at dksX4_setThreshold_0 20 rfl rfl)
theorem dX4_setThreshold_21 : decode cX4_setThreshold 21 = .ok (.aload_n 0, 1) := dk_42 (dk_at dksX4_setThreshold_0 21 rfl rfl)
theorem dX4_setThreshold_22 : decode cX4_setThreshold 22 = .ok (.invokevirtual 145, 3) := dk_182 0 145 (dk_at dksX4_setThreshold_1 0 rfl rfl)
theorem dX4_setThreshold_25 : decode cX4_setThreshold 25 = .ok (.aload_n 0, 1) := dk_42 (dk_at dksX4_setThreshold_1 3 rfl rfl)
theorem dX4_setThreshold_26 : decode cX4_setThreshold 26 = .ok (.getfield 9, 3) := dk_180 0 9 (dk_at dksX4_setThreshold_1 4 rfl rfl)
theorem dX4_setThreshold_29 : decode cX4_setThreshold 29 = .ok (.iconst 1, 1) := dk_4 (dk_at dksX4_setThreshold_1 7 rfl rfl)
theorem dX4_setThreshold_30 : decode cX4_setThreshold 30 = .ok (.iaload, 1) := dk_46 (dk_at dksX4_setThreshold_1 8 rfl rfl)
theorem dX4_setThreshold_31 : decode cX4_setThreshold 31 = .ok (.istore_n 2, 1) := dk_61 (dk_at dksX4_setThreshold_1 9 rfl rfl)
theorem dX4_setThreshold_32 : decode cX4_setThreshold 32 = .ok (.aload_n 0, 1) := dk_42 (dk_at dksX4_setThreshold_1 10 rfl rfl)
theorem dX4_setThreshold_33 : decode cX4_setThreshold 33 = .ok (.getfield 9, 3) := dk_180 0 9 (dk_at dksX4_setThreshold_1 11 rfl rfl)
theorem dX4_setThreshold_36 : decode cX4_setThreshold 36 = .ok (.iconst 1, 1) := dk_4 (dk_at dksX4_setThreshold_1 14 rfl rfl)
theorem dX4_setThreshold_37 : decode cX4_setThreshold 37 = .ok (.iload_n 1, 1) := dk_27 (dk_at dksX4_setThreshold_1 15 rfl rfl)
theorem dX4_setThreshold_38 : decode cX4_setThreshold 38 = .ok (.iastore, 1) := dk_79 (dk_at dksX4_setThreshold_1 16 rfl rfl)
theorem dX4_setThreshold_39 : decode cX4_setThreshold 39 = .ok (.iload_n 2, 1) := dk_28 (dk_at dksX4_setThreshold_1 17 rfl rfl)
theorem dX4_setThreshold_40 : decode cX4_setThreshold 40 = .ok (.ireturn, 1) := dk_172 (dk_at dksX4_setThreshold_1 18 rfl rfl)
abbrev cX4_templates : ByteArray := prog_17_method_39_code
def yX4_templates : MethodName := ⟨RX4, "templates", "()I"⟩
def dkwX4_templates_1 : List UInt8 := [4, 28, 120, 167, 0, 4, 3, 128, 60, 132, 2, 1, 167, 255, 229, 27, 172]
abbrev dktX4_templates_1 : List UInt8 := dkwX4_templates_1 ++ []
def dkwX4_templates_0 : List UInt8 := [42, 3, 181, 0, 55, 3, 60, 3, 61, 28, 16, 12, 162, 0, 27, 27, 42, 28, 182, 0, 91, 153, 0, 9]
abbrev dktX4_templates_0 : List UInt8 := dkwX4_templates_0 ++ dktX4_templates_1
theorem dksX4_templates_0 : cX4_templates.data.toList.drop 0 = dktX4_templates_0 := by decide +kernel
theorem dksX4_templates_1 : cX4_templates.data.toList.drop 24 = dktX4_templates_1 := dk_seg dksX4_templates_0 24 rfl rfl
theorem dX4_templates_0 : decode cX4_templates 0 = .ok (.aload_n 0, 1) := dk_42 (dk_at dksX4_templates_0 0 rfl rfl)
theorem dX4_templates_1 : decode cX4_templates 1 = .ok (.iconst 0, 1) := dk_3 (dk_at dksX4_templates_0 1 rfl rfl)
theorem dX4_templates_2 : decode cX4_templates 2 = .ok (.putfield 55, 3) := dk_181 0 55 (dk_at dksX4_templates_0 2 rfl rfl)
theorem dX4_templates_5 : decode cX4_templates 5 = .ok (.iconst 0, 1) := dk_3 (dk_at dksX4_templates_0 5 rfl rfl)
theorem dX4_templates_6 : decode cX4_templates 6 = .ok (.istore_n 1, 1) := dk_60 (dk_at dksX4_templates_0 6 rfl rfl)
theorem dX4_templates_7 : decode cX4_templates 7 = .ok (.iconst 0, 1) := dk_3 (dk_at dksX4_templates_0 7 rfl rfl)
theorem dX4_templates_8 : decode cX4_templates 8 = .ok (.istore_n 2, 1) := dk_61 (dk_at dksX4_templates_0 8 rfl rfl)
theorem dX4_templates_9 : decode cX4_templates 9 = .ok (.iload_n 2, 1) := dk_28 (dk_at dksX4_templates_0 9 rfl rfl)
theorem dX4_templates_10 : decode cX4_templates 10 = .ok (.bipush 12, 2) := dk_16 12 (dk_at dksX4_templates_0 10 rfl rfl)
theorem dX4_templates_12 : decode cX4_templates 12 = .ok (.if_icmp .ge 27, 3) := dk_162 0 27 (dk_at dksX4_templates_0 12 rfl rfl)
theorem dX4_templates_15 : decode cX4_templates 15 = .ok (.iload_n 1, 1) := dk_27 (dk_at dksX4_templates_0 15 rfl rfl)
theorem dX4_templates_16 : decode cX4_templates 16 = .ok (.aload_n 0, 1) := dk_42 (dk_at dksX4_templates_0 16 rfl rfl)
theorem dX4_templates_17 : decode cX4_templates 17 = .ok (.iload_n 2, 1) := dk_28 (dk_at dksX4_templates_0 17 rfl rfl)
theorem dX4_templates_18 : decode cX4_templates 18 = .ok (.invokevirtual 91, 3) := dk_182 0 91 (dk_at dksX4_templates_0 18 rfl rfl)
theorem dX4_templates_21 : decode cX4_templates 21 = .ok (.ifCond .eq 9, 3) := dk_153 0 9 (dk_at dksX4_templates_0 21 rfl rfl)
theorem dX4_templates_24 : decode cX4_templates 24 = .ok (.iconst 1, 1) := dk_4 (dk_at dksX4_templates_1 0 rfl rfl)
theorem dX4_templates_25 : decode cX4_templates 25 = .ok (.iload_n 2, 1) := dk_28 (dk_at dksX4_templates_1 1 rfl rfl)
theorem dX4_templates_26 : decode cX4_templates 26 = .ok (.ishl, 1) := dk_120 (dk_at dksX4_templates_1 2 rfl rfl)
theorem dX4_templates_27 : decode cX4_templates 27 = .ok (.goto 4, 3) := dk_167 0 4 (dk_at dksX4_templates_1 3 rfl rfl)
theorem dX4_templates_30 : decode cX4_templates 30 = .ok (.iconst 0, 1) := dk_3 (dk_at dksX4_templates_1 6 rfl rfl)
theorem dX4_templates_31 : decode cX4_templates 31 = .ok (.ior, 1) := dk_128 (dk_at dksX4_templates_1 7 rfl rfl)
theorem dX4_templates_32 : decode cX4_templates 32 = .ok (.istore_n 1, 1) := dk_60 (dk_at dksX4_templates_1 8 rfl rfl)
theorem dX4_templates_33 : decode cX4_templates 33 = .ok (.iinc 2 1, 3) := dk_132 2 1 (dk_at dksX4_templates_1 9 rfl rfl)
theorem dX4_templates_36 : decode cX4_templates 36 = .ok (.goto (-27), 3) := dk_167 255 229 (dk_at dksX4_templates_1 12 rfl rfl)
theorem dX4_templates_39 : decode cX4_templates 39 = .ok (.iload_n 1, 1) := dk_27 (dk_at dksX4_templates_1 15 rfl rfl)
theorem dX4_templates_40 : decode cX4_templates 40 = .ok (.ireturn, 1) := dk_172 (dk_at dksX4_templates_1 16 rfl rfl)
abbrev cX4_template : ByteArray := prog_17_method_44_code
def yX4_template : MethodName := ⟨RX4, "template", "(II)I"⟩
def dkwX4_template_4 : List UInt8 := [182, 0, 158, 172]
abbrev dktX4_template_4 : List UInt8 := dkwX4_template_4 ++ []
def dkwX4_template_3 : List UInt8 := [42, 27, 182, 0, 164, 167, 0, 21, 28, 6, 160, 0, 11, 42, 27, 182, 0, 167, 167, 0, 8, 42, 27]
abbrev dktX4_template_3 : List UInt8 := dkwX4_template_3 ++ dktX4_template_4
def dkwX4_template_2 : List UInt8 := [182, 0, 155, 167, 0, 47, 28, 4, 160, 0, 11, 42, 27, 182, 0, 161, 167, 0, 34, 28, 5, 160, 0, 11]
abbrev dktX4_template_2 : List UInt8 := dkwX4_template_2 ++ dktX4_template_3
def dkwX4_template_1 : List UInt8 := [167, 0, 4, 3, 181, 0, 55, 42, 180, 0, 55, 158, 0, 5, 3, 172, 28, 154, 0, 11, 42, 27]
abbrev dktX4_template_1 : List UInt8 := dkwX4_template_1 ++ dktX4_template_2
def dkwX4_template_0 : List UInt8 := [42, 42, 27, 182, 0, 91, 154, 0, 7, 4, 167, 0, 17, 28, 3, 7, 184, 0, 59, 154, 0, 7, 5]
abbrev dktX4_template_0 : List UInt8 := dkwX4_template_0 ++ dktX4_template_1
theorem dksX4_template_0 : cX4_template.data.toList.drop 0 = dktX4_template_0 := by decide +kernel
theorem dksX4_template_1 : cX4_template.data.toList.drop 23 = dktX4_template_1 := dk_seg dksX4_template_0 23 rfl rfl
theorem dksX4_template_2 : cX4_template.data.toList.drop 45 = dktX4_template_2 := dk_seg dksX4_template_1 22 rfl rfl
theorem dksX4_template_3 : cX4_template.data.toList.drop 69 = dktX4_template_3 := dk_seg dksX4_template_2 24 rfl rfl
theorem dksX4_template_4 : cX4_template.data.toList.drop 92 = dktX4_template_4 := dk_seg dksX4_template_3 23 rfl rfl
theorem dX4_template_0 : decode cX4_template 0 = .ok (.aload_n 0, 1) := dk_42 (dk_at dksX4_template_0 0 rfl rfl)
theorem dX4_template_1 : decode cX4_template 1 = .ok (.aload_n 0, 1) := dk_42 (dk_at dksX4_template_0 1 rfl rfl)
theorem dX4_template_2 : decode cX4_template 2 = .ok (.iload_n 1, 1) := dk_27 (dk_at dksX4_template_0 2 rfl rfl)
theorem dX4_template_3 : decode cX4_template 3 = .ok (.invokevirtual 91, 3) := dk_182 0 91 (dk_at dksX4_template_0 3 rfl rfl)
theorem dX4_template_6 : decode cX4_template 6 = .ok (.ifCond .ne 7, 3) := dk_154 0 7 (dk_at dksX4_template_0 6 rfl rfl)
theorem dX4_template_9 : decode cX4_template 9 = .ok (.iconst 1, 1) := dk_4 (dk_at dksX4_template_0 9 rfl rfl)
theorem dX4_template_10 : decode cX4_template 10 = .ok (.goto 17, 3) := dk_167 0 17 (dk_at dksX4_template_0 10 rfl rfl)
theorem dX4_template_13 : decode cX4_template 13 = .ok (.iload_n 2, 1) := dk_28 (dk_at dksX4_template_0 13 rfl rfl)
theorem dX4_template_14 : decode cX4_template 14 = .ok (.iconst 0, 1) := dk_3 (dk_at dksX4_template_0 14 rfl rfl)
theorem dX4_template_15 : decode cX4_template 15 = .ok (.iconst 4, 1) := dk_7 (dk_at dksX4_template_0 15 rfl rfl)
theorem dX4_template_16 : decode cX4_template 16 = .ok (.invokestatic 59, 3) := dk_184 0 59 (dk_at dksX4_template_0 16 rfl rfl)
theorem dX4_template_19 : decode cX4_template 19 = .ok (.ifCond .ne 7, 3) := dk_154 0 7 (dk_at dksX4_template_0 19 rfl rfl)
theorem dX4_template_22 : decode cX4_template 22 = .ok (.iconst 2, 1) := dk_5 (dk_at dksX4_template_0 22 rfl rfl)
theorem dX4_template_23 : decode cX4_template 23 = .ok (.goto 4, 3) := dk_167 0 4 (dk_at dksX4_template_1 0 rfl rfl)
theorem dX4_template_26 : decode cX4_template 26 = .ok (.iconst 0, 1) := dk_3 (dk_at dksX4_template_1 3 rfl rfl)
theorem dX4_template_27 : decode cX4_template 27 = .ok (.putfield 55, 3) := dk_181 0 55 (dk_at dksX4_template_1 4 rfl rfl)
theorem dX4_template_30 : decode cX4_template 30 = .ok (.aload_n 0, 1) := dk_42 (dk_at dksX4_template_1 7 rfl rfl)
theorem dX4_template_31 : decode cX4_template 31 = .ok (.getfield 55, 3) := dk_180 0 55 (dk_at dksX4_template_1 8 rfl rfl)
theorem dX4_template_34 : decode cX4_template 34 = .ok (.ifCond .le 5, 3) := dk_158 0 5 (dk_at dksX4_template_1 11 rfl rfl)
theorem dX4_template_37 : decode cX4_template 37 = .ok (.iconst 0, 1) := dk_3 (dk_at dksX4_template_1 14 rfl rfl)
theorem dX4_template_38 : decode cX4_template 38 = .ok (.ireturn, 1) := dk_172 (dk_at dksX4_template_1 15 rfl rfl)
theorem dX4_template_39 : decode cX4_template 39 = .ok (.iload_n 2, 1) := dk_28 (dk_at dksX4_template_1 16 rfl rfl)
theorem dX4_template_40 : decode cX4_template 40 = .ok (.ifCond .ne 11, 3) := dk_154 0 11 (dk_at dksX4_template_1 17 rfl rfl)
theorem dX4_template_43 : decode cX4_template 43 = .ok (.aload_n 0, 1) := dk_42 (dk_at dksX4_template_1 20 rfl rfl)
theorem dX4_template_44 : decode cX4_template 44 = .ok (.iload_n 1, 1) := dk_27 (dk_at dksX4_template_1 21 rfl rfl)
theorem dX4_template_45 : decode cX4_template 45 = .ok (.invokevirtual 155, 3) := dk_182 0 155 (dk_at dksX4_template_2 0 rfl rfl)
theorem dX4_template_48 : decode cX4_template 48 = .ok (.goto 47, 3) := dk_167 0 47 (dk_at dksX4_template_2 3 rfl rfl)
theorem dX4_template_51 : decode cX4_template 51 = .ok (.iload_n 2, 1) := dk_28 (dk_at dksX4_template_2 6 rfl rfl)
theorem dX4_template_52 : decode cX4_template 52 = .ok (.iconst 1, 1) := dk_4 (dk_at dksX4_template_2 7 rfl rfl)
theorem dX4_template_53 : decode cX4_template 53 = .ok (.if_icmp .ne 11, 3) := dk_160 0 11 (dk_at dksX4_template_2 8 rfl rfl)
theorem dX4_template_56 : decode cX4_template 56 = .ok (.aload_n 0, 1) := dk_42 (dk_at dksX4_template_2 11 rfl rfl)
theorem dX4_template_57 : decode cX4_template 57 = .ok (.iload_n 1, 1) := dk_27 (dk_at dksX4_template_2 12 rfl rfl)
theorem dX4_template_58 : decode cX4_template 58 = .ok (.invokevirtual 161, 3) := dk_182 0 161 (dk_at dksX4_template_2 13 rfl rfl)
theorem dX4_template_61 : decode cX4_template 61 = .ok (.goto 34, 3) := dk_167 0 34 (dk_at dksX4_template_2 16 rfl rfl)
theorem dX4_template_64 : decode cX4_template 64 = .ok (.iload_n 2, 1) := dk_28 (dk_at dksX4_template_2 19 rfl rfl)
theorem dX4_template_65 : decode cX4_template 65 = .ok (.iconst 2, 1) := dk_5 (dk_at dksX4_template_2 20 rfl rfl)
theorem dX4_template_66 : decode cX4_template 66 = .ok (.if_icmp .ne 11, 3) := dk_160 0 11 (dk_at dksX4_template_2 21 rfl rfl)
theorem dX4_template_69 : decode cX4_template 69 = .ok (.aload_n 0, 1) := dk_42 (dk_at dksX4_template_3 0 rfl rfl)
theorem dX4_template_70 : decode cX4_template 70 = .ok (.iload_n 1, 1) := dk_27 (dk_at dksX4_template_3 1 rfl rfl)
theorem dX4_template_71 : decode cX4_template 71 = .ok (.invokevirtual 164, 3) := dk_182 0 164 (dk_at dksX4_template_3 2 rfl rfl)
theorem dX4_template_74 : decode cX4_template 74 = .ok (.goto 21, 3) := dk_167 0 21 (dk_at dksX4_template_3 5 rfl rfl)
theorem dX4_template_77 : decode cX4_template 77 = .ok (.iload_n 2, 1) := dk_28 (dk_at dksX4_template_3 8 rfl rfl)
theorem dX4_template_78 : decode cX4_template 78 = .ok (.iconst 3, 1) := dk_6 (dk_at dksX4_template_3 9 rfl rfl)
theorem dX4_template_79 : decode cX4_template 79 = .ok (.if_icmp .ne 11, 3) := dk_160 0 11 (dk_at dksX4_template_3 10 rfl rfl)
theorem dX4_template_82 : decode cX4_template 82 = .ok (.aload_n 0, 1) := dk_42 (dk_at dksX4_template_3 13 rfl rfl)
theorem dX4_template_83 : decode cX4_template 83 = .ok (.iload_n 1, 1) := dk_27 (dk_at dksX4_template_3 14 rfl rfl)
theorem dX4_template_84 : decode cX4_template 84 = .ok (.invokevirtual 167, 3) := dk_182 0 167 (dk_at dksX4_template_3 15 rfl rfl)
theorem dX4_template_87 : decode cX4_template 87 = .ok (.goto 8, 3) := dk_167 0 8 (dk_at dksX4_template_3 18 rfl rfl)
theorem dX4_template_90 : decode cX4_template 90 = .ok (.aload_n 0, 1) := dk_42 (dk_at dksX4_template_3 21 rfl rfl)
theorem dX4_template_91 : decode cX4_template 91 = .ok (.iload_n 1, 1) := dk_27 (dk_at dksX4_template_3 22 rfl rfl)
theorem dX4_template_92 : decode cX4_template 92 = .ok (.invokevirtual 158, 3) := dk_182 0 158 (dk_at dksX4_template_4 0 rfl rfl)
theorem dX4_template_95 : decode cX4_template 95 = .ok (.ireturn, 1) := dk_172 (dk_at dksX4_template_4 3 rfl rfl)
abbrev cX4_tokensOf : ByteArray := prog_17_method_40_code
def yX4_tokensOf : MethodName := ⟨RX4, "tokensOf", "(I)I"⟩
def dkwX4_tokensOf_0 : List UInt8 := [42, 180, 0, 22, 42, 27, 3, 182, 0, 88, 46, 172]
abbrev dktX4_tokensOf_0 : List UInt8 := dkwX4_tokensOf_0 ++ []
theorem dksX4_tokensOf_0 : cX4_tokensOf.data.toList.drop 0 = dktX4_tokensOf_0 := by decide +kernel
theorem dX4_tokensOf_0 : decode cX4_tokensOf 0 = .ok (.aload_n 0, 1) := dk_42 (dk_at dksX4_tokensOf_0 0 rfl rfl)
theorem dX4_tokensOf_1 : decode cX4_tokensOf 1 = .ok (.getfield 22, 3) := dk_180 0 22 (dk_at dksX4_tokensOf_0 1 rfl rfl)
theorem dX4_tokensOf_4 : decode cX4_tokensOf 4 = .ok (.aload_n 0, 1) := dk_42 (dk_at dksX4_tokensOf_0 4 rfl rfl)
theorem dX4_tokensOf_5 : decode cX4_tokensOf 5 = .ok (.iload_n 1, 1) := dk_27 (dk_at dksX4_tokensOf_0 5 rfl rfl)
theorem dX4_tokensOf_6 : decode cX4_tokensOf 6 = .ok (.iconst 0, 1) := dk_3 (dk_at dksX4_tokensOf_0 6 rfl rfl)
theorem dX4_tokensOf_7 : decode cX4_tokensOf 7 = .ok (.invokevirtual 88, 3) := dk_182 0 88 (dk_at dksX4_tokensOf_0 7 rfl rfl)
theorem dX4_tokensOf_10 : decode cX4_tokensOf 10 = .ok (.iaload, 1) := dk_46 (dk_at dksX4_tokensOf_0 10 rfl rfl)
theorem dX4_tokensOf_11 : decode cX4_tokensOf 11 = .ok (.ireturn, 1) := dk_172 (dk_at dksX4_tokensOf_0 11 rfl rfl)
abbrev cX4_variables : ByteArray := prog_17_method_41_code
def yX4_variables : MethodName := ⟨RX4, "variables", "(I)I"⟩
def dkwX4_variables_1 : List UInt8 := [3, 167, 0, 4, 4, 96, 61, 132, 3, 1, 167, 255, 226, 28, 172]
abbrev dktX4_variables_1 : List UInt8 := dkwX4_variables_1 ++ []
def dkwX4_variables_0 : List UInt8 := [3, 61, 3, 62, 29, 42, 27, 182, 0, 155, 162, 0, 27, 28, 42, 27, 29, 182, 0, 97, 2, 160, 0, 7]
abbrev dktX4_variables_0 : List UInt8 := dkwX4_variables_0 ++ dktX4_variables_1
theorem dksX4_variables_0 : cX4_variables.data.toList.drop 0 = dktX4_variables_0 := by decide +kernel
theorem dksX4_variables_1 : cX4_variables.data.toList.drop 24 = dktX4_variables_1 := dk_seg dksX4_variables_0 24 rfl rfl
theorem dX4_variables_0 : decode cX4_variables 0 = .ok (.iconst 0, 1) := dk_3 (dk_at dksX4_variables_0 0 rfl rfl)
theorem dX4_variables_1 : decode cX4_variables 1 = .ok (.istore_n 2, 1) := dk_61 (dk_at dksX4_variables_0 1 rfl rfl)
theorem dX4_variables_2 : decode cX4_variables 2 = .ok (.iconst 0, 1) := dk_3 (dk_at dksX4_variables_0 2 rfl rfl)
theorem dX4_variables_3 : decode cX4_variables 3 = .ok (.istore_n 3, 1) := dk_62 (dk_at dksX4_variables_0 3 rfl rfl)
theorem dX4_variables_4 : decode cX4_variables 4 = .ok (.iload_n 3, 1) := dk_29 (dk_at dksX4_variables_0 4 rfl rfl)
theorem dX4_variables_5 : decode cX4_variables 5 = .ok (.aload_n 0, 1) := dk_42 (dk_at dksX4_variables_0 5 rfl rfl)
theorem dX4_variables_6 : decode cX4_variables 6 = .ok (.iload_n 1, 1) := dk_27 (dk_at dksX4_variables_0 6 rfl rfl)
theorem dX4_variables_7 : decode cX4_variables 7 = .ok (.invokevirtual 155, 3) := dk_182 0 155 (dk_at dksX4_variables_0 7 rfl rfl)
theorem dX4_variables_10 : decode cX4_variables 10 = .ok (.if_icmp .ge 27, 3) := dk_162 0 27 (dk_at dksX4_variables_0 10 rfl rfl)
theorem dX4_variables_13 : decode cX4_variables 13 = .ok (.iload_n 2, 1) := dk_28 (dk_at dksX4_variables_0 13 rfl rfl)
theorem dX4_variables_14 : decode cX4_variables 14 = .ok (.aload_n 0, 1) := dk_42 (dk_at dksX4_variables_0 14 rfl rfl)
theorem dX4_variables_15 : decode cX4_variables 15 = .ok (.iload_n 1, 1) := dk_27 (dk_at dksX4_variables_0 15 rfl rfl)
theorem dX4_variables_16 : decode cX4_variables 16 = .ok (.iload_n 3, 1) := dk_29 (dk_at dksX4_variables_0 16 rfl rfl)
theorem dX4_variables_17 : decode cX4_variables 17 = .ok (.invokevirtual 97, 3) := dk_182 0 97 (dk_at dksX4_variables_0 17 rfl rfl)
theorem dX4_variables_20 : decode cX4_variables 20 = .ok (.iconst (-1), 1) := dk_2 (dk_at dksX4_variables_0 20 rfl rfl)
theorem dX4_variables_21 : decode cX4_variables 21 = .ok (.if_icmp .ne 7, 3) := dk_160 0 7 (dk_at dksX4_variables_0 21 rfl rfl)
theorem dX4_variables_24 : decode cX4_variables 24 = .ok (.iconst 0, 1) := dk_3 (dk_at dksX4_variables_1 0 rfl rfl)
theorem dX4_variables_25 : decode cX4_variables 25 = .ok (.goto 4, 3) := dk_167 0 4 (dk_at dksX4_variables_1 1 rfl rfl)
theorem dX4_variables_28 : decode cX4_variables 28 = .ok (.iconst 1, 1) := dk_4 (dk_at dksX4_variables_1 4 rfl rfl)
theorem dX4_variables_29 : decode cX4_variables 29 = .ok (.iadd, 1) := dk_96 (dk_at dksX4_variables_1 5 rfl rfl)
theorem dX4_variables_30 : decode cX4_variables 30 = .ok (.istore_n 2, 1) := dk_61 (dk_at dksX4_variables_1 6 rfl rfl)
theorem dX4_variables_31 : decode cX4_variables 31 = .ok (.iinc 3 1, 3) := dk_132 3 1 (dk_at dksX4_variables_1 7 rfl rfl)
theorem dX4_variables_34 : decode cX4_variables 34 = .ok (.goto (-30), 3) := dk_167 255 226 (dk_at dksX4_variables_1 10 rfl rfl)
theorem dX4_variables_37 : decode cX4_variables 37 = .ok (.iload_n 2, 1) := dk_28 (dk_at dksX4_variables_1 13 rfl rfl)
theorem dX4_variables_38 : decode cX4_variables 38 = .ok (.ireturn, 1) := dk_172 (dk_at dksX4_variables_1 14 rfl rfl)
abbrev cX4_rowsOf : ByteArray := prog_17_method_18_code
def yX4_rowsOf : MethodName := ⟨RX4, "rowsOf", "(I)I"⟩
def dkwX4_rowsOf_1 : List UInt8 := [27, 160, 0, 7, 4, 167, 0, 4, 3, 96, 61, 132, 3, 1, 167, 255, 222, 28, 172]
abbrev dktX4_rowsOf_1 : List UInt8 := dkwX4_rowsOf_1 ++ []
def dkwX4_rowsOf_0 : List UInt8 := [3, 61, 3, 62, 29, 42, 180, 0, 9, 3, 46, 162, 0, 30, 28, 42, 180, 0, 9, 16, 43, 29, 96, 46]
abbrev dktX4_rowsOf_0 : List UInt8 := dkwX4_rowsOf_0 ++ dktX4_rowsOf_1
theorem dksX4_rowsOf_0 : cX4_rowsOf.data.toList.drop 0 = dktX4_rowsOf_0 := by decide +kernel
theorem dksX4_rowsOf_1 : cX4_rowsOf.data.toList.drop 24 = dktX4_rowsOf_1 := dk_seg dksX4_rowsOf_0 24 rfl rfl
theorem dX4_rowsOf_0 : decode cX4_rowsOf 0 = .ok (.iconst 0, 1) := dk_3 (dk_at dksX4_rowsOf_0 0 rfl rfl)
theorem dX4_rowsOf_1 : decode cX4_rowsOf 1 = .ok (.istore_n 2, 1) := dk_61 (dk_at dksX4_rowsOf_0 1 rfl rfl)
theorem dX4_rowsOf_2 : decode cX4_rowsOf 2 = .ok (.iconst 0, 1) := dk_3 (dk_at dksX4_rowsOf_0 2 rfl rfl)
theorem dX4_rowsOf_3 : decode cX4_rowsOf 3 = .ok (.istore_n 3, 1) := dk_62 (dk_at dksX4_rowsOf_0 3 rfl rfl)
theorem dX4_rowsOf_4 : decode cX4_rowsOf 4 = .ok (.iload_n 3, 1) := dk_29 (dk_at dksX4_rowsOf_0 4 rfl rfl)
theorem dX4_rowsOf_5 : decode cX4_rowsOf 5 = .ok (.aload_n 0, 1) := dk_42 (dk_at dksX4_rowsOf_0 5 rfl rfl)
theorem dX4_rowsOf_6 : decode cX4_rowsOf 6 = .ok (.getfield 9, 3) := dk_180 0 9 (dk_at dksX4_rowsOf_0 6 rfl rfl)
theorem dX4_rowsOf_9 : decode cX4_rowsOf 9 = .ok (.iconst 0, 1) := dk_3 (dk_at dksX4_rowsOf_0 9 rfl rfl)
theorem dX4_rowsOf_10 : decode cX4_rowsOf 10 = .ok (.iaload, 1) := dk_46 (dk_at dksX4_rowsOf_0 10 rfl rfl)
theorem dX4_rowsOf_11 : decode cX4_rowsOf 11 = .ok (.if_icmp .ge 30, 3) := dk_162 0 30 (dk_at dksX4_rowsOf_0 11 rfl rfl)
theorem dX4_rowsOf_14 : decode cX4_rowsOf 14 = .ok (.iload_n 2, 1) := dk_28 (dk_at dksX4_rowsOf_0 14 rfl rfl)
theorem dX4_rowsOf_15 : decode cX4_rowsOf 15 = .ok (.aload_n 0, 1) := dk_42 (dk_at dksX4_rowsOf_0 15 rfl rfl)
theorem dX4_rowsOf_16 : decode cX4_rowsOf 16 = .ok (.getfield 9, 3) := dk_180 0 9 (dk_at dksX4_rowsOf_0 16 rfl rfl)
theorem dX4_rowsOf_19 : decode cX4_rowsOf 19 = .ok (.bipush 43, 2) := dk_16 43 (dk_at dksX4_rowsOf_0 19 rfl rfl)
theorem dX4_rowsOf_21 : decode cX4_rowsOf 21 = .ok (.iload_n 3, 1) := dk_29 (dk_at dksX4_rowsOf_0 21 rfl rfl)
theorem dX4_rowsOf_22 : decode cX4_rowsOf 22 = .ok (.iadd, 1) := dk_96 (dk_at dksX4_rowsOf_0 22 rfl rfl)
theorem dX4_rowsOf_23 : decode cX4_rowsOf 23 = .ok (.iaload, 1) := dk_46 (dk_at dksX4_rowsOf_0 23 rfl rfl)
theorem dX4_rowsOf_24 : decode cX4_rowsOf 24 = .ok (.iload_n 1, 1) := dk_27 (dk_at dksX4_rowsOf_1 0 rfl rfl)
theorem dX4_rowsOf_25 : decode cX4_rowsOf 25 = .ok (.if_icmp .ne 7, 3) := dk_160 0 7 (dk_at dksX4_rowsOf_1 1 rfl rfl)
theorem dX4_rowsOf_28 : decode cX4_rowsOf 28 = .ok (.iconst 1, 1) := dk_4 (dk_at dksX4_rowsOf_1 4 rfl rfl)
theorem dX4_rowsOf_29 : decode cX4_rowsOf 29 = .ok (.goto 4, 3) := dk_167 0 4 (dk_at dksX4_rowsOf_1 5 rfl rfl)
theorem dX4_rowsOf_32 : decode cX4_rowsOf 32 = .ok (.iconst 0, 1) := dk_3 (dk_at dksX4_rowsOf_1 8 rfl rfl)
theorem dX4_rowsOf_33 : decode cX4_rowsOf 33 = .ok (.iadd, 1) := dk_96 (dk_at dksX4_rowsOf_1 9 rfl rfl)
theorem dX4_rowsOf_34 : decode cX4_rowsOf 34 = .ok (.istore_n 2, 1) := dk_61 (dk_at dksX4_rowsOf_1 10 rfl rfl)
theorem dX4_rowsOf_35 : decode cX4_rowsOf 35 = .ok (.iinc 3 1, 3) := dk_132 3 1 (dk_at dksX4_rowsOf_1 11 rfl rfl)
theorem dX4_rowsOf_38 : decode cX4_rowsOf 38 = .ok (.goto (-34), 3) := dk_167 255 222 (dk_at dksX4_rowsOf_1 14 rfl rfl)
theorem dX4_rowsOf_41 : decode cX4_rowsOf 41 = .ok (.iload_n 2, 1) := dk_28 (dk_at dksX4_rowsOf_1 17 rfl rfl)
theorem dX4_rowsOf_42 : decode cX4_rowsOf 42 = .ok (.ireturn, 1) := dk_172 (dk_at dksX4_rowsOf_1 18 rfl rfl)
abbrev cX4_costOfTemplate : ByteArray := prog_17_method_43_code
def yX4_costOfTemplate : MethodName := ⟨RX4, "costOfTemplate", "(I)I"⟩
def dkwX4_costOfTemplate_2 : List UInt8 := [167, 0, 4, 5, 96, 62, 132, 4, 1, 167, 255, 215, 29, 172]
abbrev dktX4_costOfTemplate_2 : List UInt8 := dkwX4_costOfTemplate_2 ++ []
def dkwX4_costOfTemplate_1 : List UInt8 := [162, 0, 36, 29, 42, 27, 21, 4, 182, 0, 97, 2, 160, 0, 15, 42, 28, 21, 4, 182, 0, 81, 4, 96]
abbrev dktX4_costOfTemplate_1 : List UInt8 := dkwX4_costOfTemplate_1 ++ dktX4_costOfTemplate_2
def dkwX4_costOfTemplate_0 : List UInt8 := [42, 27, 3, 182, 0, 88, 61, 42, 27, 182, 0, 158, 62, 3, 54, 4, 21, 4, 42, 180, 0, 22, 28, 46]
abbrev dktX4_costOfTemplate_0 : List UInt8 := dkwX4_costOfTemplate_0 ++ dktX4_costOfTemplate_1
theorem dksX4_costOfTemplate_0 : cX4_costOfTemplate.data.toList.drop 0 = dktX4_costOfTemplate_0 := by decide +kernel
theorem dksX4_costOfTemplate_1 : cX4_costOfTemplate.data.toList.drop 24 = dktX4_costOfTemplate_1 := dk_seg dksX4_costOfTemplate_0 24 rfl rfl
theorem dksX4_costOfTemplate_2 : cX4_costOfTemplate.data.toList.drop 48 = dktX4_costOfTemplate_2 := dk_seg dksX4_costOfTemplate_1 24 rfl rfl
theorem dX4_costOfTemplate_0 : decode cX4_costOfTemplate 0 = .ok (.aload_n 0, 1) := dk_42 (dk_at dksX4_costOfTemplate_0 0 rfl rfl)
theorem dX4_costOfTemplate_1 : decode cX4_costOfTemplate 1 = .ok (.iload_n 1, 1) := dk_27 (dk_at dksX4_costOfTemplate_0 1 rfl rfl)
theorem dX4_costOfTemplate_2 : decode cX4_costOfTemplate 2 = .ok (.iconst 0, 1) := dk_3 (dk_at dksX4_costOfTemplate_0 2 rfl rfl)
theorem dX4_costOfTemplate_3 : decode cX4_costOfTemplate 3 = .ok (.invokevirtual 88, 3) := dk_182 0 88 (dk_at dksX4_costOfTemplate_0 3 rfl rfl)
theorem dX4_costOfTemplate_6 : decode cX4_costOfTemplate 6 = .ok (.istore_n 2, 1) := dk_61 (dk_at dksX4_costOfTemplate_0 6 rfl rfl)
theorem dX4_costOfTemplate_7 : decode cX4_costOfTemplate 7 = .ok (.aload_n 0, 1) := dk_42 (dk_at dksX4_costOfTemplate_0 7 rfl rfl)
theorem dX4_costOfTemplate_8 : decode cX4_costOfTemplate 8 = .ok (.iload_n 1, 1) := dk_27 (dk_at dksX4_costOfTemplate_0 8 rfl rfl)
theorem dX4_costOfTemplate_9 : decode cX4_costOfTemplate 9 = .ok (.invokevirtual 158, 3) := dk_182 0 158 (dk_at dksX4_costOfTemplate_0 9 rfl rfl)
theorem dX4_costOfTemplate_12 : decode cX4_costOfTemplate 12 = .ok (.istore_n 3, 1) := dk_62 (dk_at dksX4_costOfTemplate_0 12 rfl rfl)
theorem dX4_costOfTemplate_13 : decode cX4_costOfTemplate 13 = .ok (.iconst 0, 1) := dk_3 (dk_at dksX4_costOfTemplate_0 13 rfl rfl)
theorem dX4_costOfTemplate_14 : decode cX4_costOfTemplate 14 = .ok (.istore 4, 2) := dk_54 4 (dk_at dksX4_costOfTemplate_0 14 rfl rfl)
theorem dX4_costOfTemplate_16 : decode cX4_costOfTemplate 16 = .ok (.iload 4, 2) := dk_21 4 (dk_at dksX4_costOfTemplate_0 16 rfl rfl)
theorem dX4_costOfTemplate_18 : decode cX4_costOfTemplate 18 = .ok (.aload_n 0, 1) := dk_42 (dk_at dksX4_costOfTemplate_0 18 rfl rfl)
theorem dX4_costOfTemplate_19 : decode cX4_costOfTemplate 19 = .ok (.getfield 22, 3) := dk_180 0 22 (dk_at dksX4_costOfTemplate_0 19 rfl rfl)
theorem dX4_costOfTemplate_22 : decode cX4_costOfTemplate 22 = .ok (.iload_n 2, 1) := dk_28 (dk_at dksX4_costOfTemplate_0 22 rfl rfl)
theorem dX4_costOfTemplate_23 : decode cX4_costOfTemplate 23 = .ok (.iaload, 1) := dk_46 (dk_at dksX4_costOfTemplate_0 23 rfl rfl)
theorem dX4_costOfTemplate_24 : decode cX4_costOfTemplate 24 = .ok (.if_icmp .ge 36, 3) := dk_162 0 36 (dk_at dksX4_costOfTemplate_1 0 rfl rfl)
theorem dX4_costOfTemplate_27 : decode cX4_costOfTemplate 27 = .ok (.iload_n 3, 1) := dk_29 (dk_at dksX4_costOfTemplate_1 3 rfl rfl)
theorem dX4_costOfTemplate_28 : decode cX4_costOfTemplate 28 = .ok (.aload_n 0, 1) := dk_42 (dk_at dksX4_costOfTemplate_1 4 rfl rfl)
theorem dX4_costOfTemplate_29 : decode cX4_costOfTemplate 29 = .ok (.iload_n 1, 1) := dk_27 (dk_at dksX4_costOfTemplate_1 5 rfl rfl)
theorem dX4_costOfTemplate_30 : decode cX4_costOfTemplate 30 = .ok (.iload 4, 2) := dk_21 4 (dk_at dksX4_costOfTemplate_1 6 rfl rfl)
theorem dX4_costOfTemplate_32 : decode cX4_costOfTemplate 32 = .ok (.invokevirtual 97, 3) := dk_182 0 97 (dk_at dksX4_costOfTemplate_1 8 rfl rfl)
theorem dX4_costOfTemplate_35 : decode cX4_costOfTemplate 35 = .ok (.iconst (-1), 1) := dk_2 (dk_at dksX4_costOfTemplate_1 11 rfl rfl)
theorem dX4_costOfTemplate_36 : decode cX4_costOfTemplate 36 = .ok (.if_icmp .ne 15, 3) := dk_160 0 15 (dk_at dksX4_costOfTemplate_1 12 rfl rfl)
theorem dX4_costOfTemplate_39 : decode cX4_costOfTemplate 39 = .ok (.aload_n 0, 1) := dk_42 (dk_at dksX4_costOfTemplate_1 15 rfl rfl)
theorem dX4_costOfTemplate_40 : decode cX4_costOfTemplate 40 = .ok (.iload_n 2, 1) := dk_28 (dk_at dksX4_costOfTemplate_1 16 rfl rfl)
theorem dX4_costOfTemplate_41 : decode cX4_costOfTemplate 41 = .ok (.iload 4, 2) := dk_21 4 (dk_at dksX4_costOfTemplate_1 17 rfl rfl)
theorem dX4_costOfTemplate_43 : decode cX4_costOfTemplate 43 = .ok (.invokevirtual 81, 3) := dk_182 0 81 (dk_at dksX4_costOfTemplate_1 19 rfl rfl)
theorem dX4_costOfTemplate_46 : decode cX4_costOfTemplate 46 = .ok (.iconst 1, 1) := dk_4 (dk_at dksX4_costOfTemplate_1 22 rfl rfl)
theorem dX4_costOfTemplate_47 : decode cX4_costOfTemplate 47 = .ok (.iadd, 1) := dk_96 (dk_at dksX4_costOfTemplate_1 23 rfl rfl)
theorem dX4_costOfTemplate_48 : decode cX4_costOfTemplate 48 = .ok (.goto 4, 3) := dk_167 0 4 (dk_at dksX4_costOfTemplate_2 0 rfl rfl)
theorem dX4_costOfTemplate_51 : decode cX4_costOfTemplate 51 = .ok (.iconst 2, 1) := dk_5 (dk_at dksX4_costOfTemplate_2 3 rfl rfl)
theorem dX4_costOfTemplate_52 : decode cX4_costOfTemplate 52 = .ok (.iadd, 1) := dk_96 (dk_at dksX4_costOfTemplate_2 4 rfl rfl)
theorem dX4_costOfTemplate_53 : decode cX4_costOfTemplate 53 = .ok (.istore_n 3, 1) := dk_62 (dk_at dksX4_costOfTemplate_2 5 rfl rfl)
theorem dX4_costOfTemplate_54 : decode cX4_costOfTemplate 54 = .ok (.iinc 4 1, 3) := dk_132 4 1 (dk_at dksX4_costOfTemplate_2 6 rfl rfl)
theorem dX4_costOfTemplate_57 : decode cX4_costOfTemplate 57 = .ok (.goto (-41), 3) := dk_167 255 215 (dk_at dksX4_costOfTemplate_2 9 rfl rfl)
theorem dX4_costOfTemplate_60 : decode cX4_costOfTemplate 60 = .ok (.iload_n 3, 1) := dk_29 (dk_at dksX4_costOfTemplate_2 12 rfl rfl)
theorem dX4_costOfTemplate_61 : decode cX4_costOfTemplate 61 = .ok (.ireturn, 1) := dk_172 (dk_at dksX4_costOfTemplate_2 13 rfl rfl)
abbrev cX4_gaps : ByteArray := prog_17_method_42_code
def yX4_gaps : MethodName := ⟨RX4, "gaps", "(I)I"⟩
def dkwX4_gaps_1 : List UInt8 := [42, 28, 21, 4, 182, 0, 94, 96, 62, 132, 4, 1, 167, 255, 232, 29, 172]
abbrev dktX4_gaps_1 : List UInt8 := dkwX4_gaps_1 ++ []
def dkwX4_gaps_0 : List UInt8 := [42, 27, 3, 182, 0, 88, 61, 3, 62, 3, 54, 4, 21, 4, 42, 180, 0, 22, 28, 46, 163, 0, 19, 29]
abbrev dktX4_gaps_0 : List UInt8 := dkwX4_gaps_0 ++ dktX4_gaps_1
theorem dksX4_gaps_0 : cX4_gaps.data.toList.drop 0 = dktX4_gaps_0 := by decide +kernel
theorem dksX4_gaps_1 : cX4_gaps.data.toList.drop 24 = dktX4_gaps_1 := dk_seg dksX4_gaps_0 24 rfl rfl
theorem dX4_gaps_0 : decode cX4_gaps 0 = .ok (.aload_n 0, 1) := dk_42 (dk_at dksX4_gaps_0 0 rfl rfl)
theorem dX4_gaps_1 : decode cX4_gaps 1 = .ok (.iload_n 1, 1) := dk_27 (dk_at dksX4_gaps_0 1 rfl rfl)
theorem dX4_gaps_2 : decode cX4_gaps 2 = .ok (.iconst 0, 1) := dk_3 (dk_at dksX4_gaps_0 2 rfl rfl)
theorem dX4_gaps_3 : decode cX4_gaps 3 = .ok (.invokevirtual 88, 3) := dk_182 0 88 (dk_at dksX4_gaps_0 3 rfl rfl)
theorem dX4_gaps_6 : decode cX4_gaps 6 = .ok (.istore_n 2, 1) := dk_61 (dk_at dksX4_gaps_0 6 rfl rfl)
theorem dX4_gaps_7 : decode cX4_gaps 7 = .ok (.iconst 0, 1) := dk_3 (dk_at dksX4_gaps_0 7 rfl rfl)
theorem dX4_gaps_8 : decode cX4_gaps 8 = .ok (.istore_n 3, 1) := dk_62 (dk_at dksX4_gaps_0 8 rfl rfl)
theorem dX4_gaps_9 : decode cX4_gaps 9 = .ok (.iconst 0, 1) := dk_3 (dk_at dksX4_gaps_0 9 rfl rfl)
theorem dX4_gaps_10 : decode cX4_gaps 10 = .ok (.istore 4, 2) := dk_54 4 (dk_at dksX4_gaps_0 10 rfl rfl)
theorem dX4_gaps_12 : decode cX4_gaps 12 = .ok (.iload 4, 2) := dk_21 4 (dk_at dksX4_gaps_0 12 rfl rfl)
theorem dX4_gaps_14 : decode cX4_gaps 14 = .ok (.aload_n 0, 1) := dk_42 (dk_at dksX4_gaps_0 14 rfl rfl)
theorem dX4_gaps_15 : decode cX4_gaps 15 = .ok (.getfield 22, 3) := dk_180 0 22 (dk_at dksX4_gaps_0 15 rfl rfl)
theorem dX4_gaps_18 : decode cX4_gaps 18 = .ok (.iload_n 2, 1) := dk_28 (dk_at dksX4_gaps_0 18 rfl rfl)
theorem dX4_gaps_19 : decode cX4_gaps 19 = .ok (.iaload, 1) := dk_46 (dk_at dksX4_gaps_0 19 rfl rfl)
theorem dX4_gaps_20 : decode cX4_gaps 20 = .ok (.if_icmp .gt 19, 3) := dk_163 0 19 (dk_at dksX4_gaps_0 20 rfl rfl)
theorem dX4_gaps_23 : decode cX4_gaps 23 = .ok (.iload_n 3, 1) := dk_29 (dk_at dksX4_gaps_0 23 rfl rfl)
theorem dX4_gaps_24 : decode cX4_gaps 24 = .ok (.aload_n 0, 1) := dk_42 (dk_at dksX4_gaps_1 0 rfl rfl)
theorem dX4_gaps_25 : decode cX4_gaps 25 = .ok (.iload_n 2, 1) := dk_28 (dk_at dksX4_gaps_1 1 rfl rfl)
theorem dX4_gaps_26 : decode cX4_gaps 26 = .ok (.iload 4, 2) := dk_21 4 (dk_at dksX4_gaps_1 2 rfl rfl)
theorem dX4_gaps_28 : decode cX4_gaps 28 = .ok (.invokevirtual 94, 3) := dk_182 0 94 (dk_at dksX4_gaps_1 4 rfl rfl)
theorem dX4_gaps_31 : decode cX4_gaps 31 = .ok (.iadd, 1) := dk_96 (dk_at dksX4_gaps_1 7 rfl rfl)
theorem dX4_gaps_32 : decode cX4_gaps 32 = .ok (.istore_n 3, 1) := dk_62 (dk_at dksX4_gaps_1 8 rfl rfl)
theorem dX4_gaps_33 : decode cX4_gaps 33 = .ok (.iinc 4 1, 3) := dk_132 4 1 (dk_at dksX4_gaps_1 9 rfl rfl)
theorem dX4_gaps_36 : decode cX4_gaps 36 = .ok (.goto (-24), 3) := dk_167 255 232 (dk_at dksX4_gaps_1 12 rfl rfl)
theorem dX4_gaps_39 : decode cX4_gaps 39 = .ok (.iload_n 3, 1) := dk_29 (dk_at dksX4_gaps_1 15 rfl rfl)
theorem dX4_gaps_40 : decode cX4_gaps 40 = .ok (.ireturn, 1) := dk_172 (dk_at dksX4_gaps_1 16 rfl rfl)
abbrev cX4_slot : ByteArray := prog_17_method_45_code
def yX4_slot : MethodName := ⟨RX4, "slot", "(II)I"⟩
def dkwX4_slot_2 : List UInt8 := [167, 0, 8, 42, 4, 182, 0, 122, 172]
abbrev dktX4_slot_2 : List UInt8 := dkwX4_slot_2 ++ []
def dkwX4_slot_1 : List UInt8 := [184, 0, 59, 153, 0, 7, 4, 167, 0, 4, 3, 62, 29, 153, 0, 12, 42, 27, 28, 182, 0, 97]
abbrev dktX4_slot_1 : List UInt8 := dkwX4_slot_1 ++ dktX4_slot_2
def dkwX4_slot_0 : List UInt8 := [42, 3, 181, 0, 55, 42, 27, 182, 0, 91, 153, 0, 22, 28, 3, 42, 27, 182, 0, 155, 4, 100]
abbrev dktX4_slot_0 : List UInt8 := dkwX4_slot_0 ++ dktX4_slot_1
theorem dksX4_slot_0 : cX4_slot.data.toList.drop 0 = dktX4_slot_0 := by decide +kernel
theorem dksX4_slot_1 : cX4_slot.data.toList.drop 22 = dktX4_slot_1 := dk_seg dksX4_slot_0 22 rfl rfl
theorem dksX4_slot_2 : cX4_slot.data.toList.drop 44 = dktX4_slot_2 := dk_seg dksX4_slot_1 22 rfl rfl
theorem dX4_slot_0 : decode cX4_slot 0 = .ok (.aload_n 0, 1) := dk_42 (dk_at dksX4_slot_0 0 rfl rfl)
theorem dX4_slot_1 : decode cX4_slot 1 = .ok (.iconst 0, 1) := dk_3 (dk_at dksX4_slot_0 1 rfl rfl)
theorem dX4_slot_2 : decode cX4_slot 2 = .ok (.putfield 55, 3) := dk_181 0 55 (dk_at dksX4_slot_0 2 rfl rfl)
theorem dX4_slot_5 : decode cX4_slot 5 = .ok (.aload_n 0, 1) := dk_42 (dk_at dksX4_slot_0 5 rfl rfl)
theorem dX4_slot_6 : decode cX4_slot 6 = .ok (.iload_n 1, 1) := dk_27 (dk_at dksX4_slot_0 6 rfl rfl)
theorem dX4_slot_7 : decode cX4_slot 7 = .ok (.invokevirtual 91, 3) := dk_182 0 91 (dk_at dksX4_slot_0 7 rfl rfl)
theorem dX4_slot_10 : decode cX4_slot 10 = .ok (.ifCond .eq 22, 3) := dk_153 0 22 (dk_at dksX4_slot_0 10 rfl rfl)
theorem dX4_slot_13 : decode cX4_slot 13 = .ok (.iload_n 2, 1) := dk_28 (dk_at dksX4_slot_0 13 rfl rfl)
theorem dX4_slot_14 : decode cX4_slot 14 = .ok (.iconst 0, 1) := dk_3 (dk_at dksX4_slot_0 14 rfl rfl)
theorem dX4_slot_15 : decode cX4_slot 15 = .ok (.aload_n 0, 1) := dk_42 (dk_at dksX4_slot_0 15 rfl rfl)
theorem dX4_slot_16 : decode cX4_slot 16 = .ok (.iload_n 1, 1) := dk_27 (dk_at dksX4_slot_0 16 rfl rfl)
theorem dX4_slot_17 : decode cX4_slot 17 = .ok (.invokevirtual 155, 3) := dk_182 0 155 (dk_at dksX4_slot_0 17 rfl rfl)
theorem dX4_slot_20 : decode cX4_slot 20 = .ok (.iconst 1, 1) := dk_4 (dk_at dksX4_slot_0 20 rfl rfl)
theorem dX4_slot_21 : decode cX4_slot 21 = .ok (.isub, 1) := dk_100 (dk_at dksX4_slot_0 21 rfl rfl)
theorem dX4_slot_22 : decode cX4_slot 22 = .ok (.invokestatic 59, 3) := dk_184 0 59 (dk_at dksX4_slot_1 0 rfl rfl)
theorem dX4_slot_25 : decode cX4_slot 25 = .ok (.ifCond .eq 7, 3) := dk_153 0 7 (dk_at dksX4_slot_1 3 rfl rfl)
theorem dX4_slot_28 : decode cX4_slot 28 = .ok (.iconst 1, 1) := dk_4 (dk_at dksX4_slot_1 6 rfl rfl)
theorem dX4_slot_29 : decode cX4_slot 29 = .ok (.goto 4, 3) := dk_167 0 4 (dk_at dksX4_slot_1 7 rfl rfl)
theorem dX4_slot_32 : decode cX4_slot 32 = .ok (.iconst 0, 1) := dk_3 (dk_at dksX4_slot_1 10 rfl rfl)
theorem dX4_slot_33 : decode cX4_slot 33 = .ok (.istore_n 3, 1) := dk_62 (dk_at dksX4_slot_1 11 rfl rfl)
theorem dX4_slot_34 : decode cX4_slot 34 = .ok (.iload_n 3, 1) := dk_29 (dk_at dksX4_slot_1 12 rfl rfl)
theorem dX4_slot_35 : decode cX4_slot 35 = .ok (.ifCond .eq 12, 3) := dk_153 0 12 (dk_at dksX4_slot_1 13 rfl rfl)
theorem dX4_slot_38 : decode cX4_slot 38 = .ok (.aload_n 0, 1) := dk_42 (dk_at dksX4_slot_1 16 rfl rfl)
theorem dX4_slot_39 : decode cX4_slot 39 = .ok (.iload_n 1, 1) := dk_27 (dk_at dksX4_slot_1 17 rfl rfl)
theorem dX4_slot_40 : decode cX4_slot 40 = .ok (.iload_n 2, 1) := dk_28 (dk_at dksX4_slot_1 18 rfl rfl)
theorem dX4_slot_41 : decode cX4_slot 41 = .ok (.invokevirtual 97, 3) := dk_182 0 97 (dk_at dksX4_slot_1 19 rfl rfl)
theorem dX4_slot_44 : decode cX4_slot 44 = .ok (.goto 8, 3) := dk_167 0 8 (dk_at dksX4_slot_2 0 rfl rfl)
theorem dX4_slot_47 : decode cX4_slot 47 = .ok (.aload_n 0, 1) := dk_42 (dk_at dksX4_slot_2 3 rfl rfl)
theorem dX4_slot_48 : decode cX4_slot 48 = .ok (.iconst 1, 1) := dk_4 (dk_at dksX4_slot_2 4 rfl rfl)
theorem dX4_slot_49 : decode cX4_slot 49 = .ok (.invokevirtual 122, 3) := dk_182 0 122 (dk_at dksX4_slot_2 5 rfl rfl)
theorem dX4_slot_52 : decode cX4_slot 52 = .ok (.ireturn, 1) := dk_172 (dk_at dksX4_slot_2 8 rfl rfl)
abbrev cX4_pattern : ByteArray := prog_17_method_48_code
def yX4_pattern : MethodName := ⟨RX4, "pattern", "(II)I"⟩
def dkwX4_pattern_2 : List UInt8 := [153, 0, 12, 42, 180, 0, 40, 28, 46, 167, 0, 8, 42, 4, 182, 0, 122, 172]
abbrev dktX4_pattern_2 : List UInt8 := dkwX4_pattern_2 ++ []
def dkwX4_pattern_1 : List UInt8 := [28, 2, 160, 0, 10, 42, 180, 0, 170, 167, 0, 31, 28, 3, 42, 180, 0, 170, 4, 100, 184, 0, 59]
abbrev dktX4_pattern_1 : List UInt8 := dkwX4_pattern_1 ++ dktX4_pattern_2
def dkwX4_pattern_0 : List UInt8 := [42, 3, 181, 0, 55, 42, 27, 182, 0, 91, 154, 0, 9, 42, 4, 182, 0, 122, 172, 42, 27, 182, 0, 176]
abbrev dktX4_pattern_0 : List UInt8 := dkwX4_pattern_0 ++ dktX4_pattern_1
theorem dksX4_pattern_0 : cX4_pattern.data.toList.drop 0 = dktX4_pattern_0 := by decide +kernel
theorem dksX4_pattern_1 : cX4_pattern.data.toList.drop 24 = dktX4_pattern_1 := dk_seg dksX4_pattern_0 24 rfl rfl
theorem dksX4_pattern_2 : cX4_pattern.data.toList.drop 47 = dktX4_pattern_2 := dk_seg dksX4_pattern_1 23 rfl rfl
theorem dX4_pattern_0 : decode cX4_pattern 0 = .ok (.aload_n 0, 1) := dk_42 (dk_at dksX4_pattern_0 0 rfl rfl)
theorem dX4_pattern_1 : decode cX4_pattern 1 = .ok (.iconst 0, 1) := dk_3 (dk_at dksX4_pattern_0 1 rfl rfl)
theorem dX4_pattern_2 : decode cX4_pattern 2 = .ok (.putfield 55, 3) := dk_181 0 55 (dk_at dksX4_pattern_0 2 rfl rfl)
theorem dX4_pattern_5 : decode cX4_pattern 5 = .ok (.aload_n 0, 1) := dk_42 (dk_at dksX4_pattern_0 5 rfl rfl)
theorem dX4_pattern_6 : decode cX4_pattern 6 = .ok (.iload_n 1, 1) := dk_27 (dk_at dksX4_pattern_0 6 rfl rfl)
theorem dX4_pattern_7 : decode cX4_pattern 7 = .ok (.invokevirtual 91, 3) := dk_182 0 91 (dk_at dksX4_pattern_0 7 rfl rfl)
theorem dX4_pattern_10 : decode cX4_pattern 10 = .ok (.ifCond .ne 9, 3) := dk_154 0 9 (dk_at dksX4_pattern_0 10 rfl rfl)
theorem dX4_pattern_13 : decode cX4_pattern 13 = .ok (.aload_n 0, 1) := dk_42 (dk_at dksX4_pattern_0 13 rfl rfl)
theorem dX4_pattern_14 : decode cX4_pattern 14 = .ok (.iconst 1, 1) := dk_4 (dk_at dksX4_pattern_0 14 rfl rfl)
theorem dX4_pattern_15 : decode cX4_pattern 15 = .ok (.invokevirtual 122, 3) := dk_182 0 122 (dk_at dksX4_pattern_0 15 rfl rfl)
theorem dX4_pattern_18 : decode cX4_pattern 18 = .ok (.ireturn, 1) := dk_172 (dk_at dksX4_pattern_0 18 rfl rfl)
theorem dX4_pattern_19 : decode cX4_pattern 19 = .ok (.aload_n 0, 1) := dk_42 (dk_at dksX4_pattern_0 19 rfl rfl)
theorem dX4_pattern_20 : decode cX4_pattern 20 = .ok (.iload_n 1, 1) := dk_27 (dk_at dksX4_pattern_0 20 rfl rfl)
theorem dX4_pattern_21 : decode cX4_pattern 21 = .ok (.invokevirtual 176, 3) := dk_182 0 176 (dk_at dksX4_pattern_0 21 rfl rfl)
theorem dX4_pattern_24 : decode cX4_pattern 24 = .ok (.iload_n 2, 1) := dk_28 (dk_at dksX4_pattern_1 0 rfl rfl)
theorem dX4_pattern_25 : decode cX4_pattern 25 = .ok (.iconst (-1), 1) := dk_2 (dk_at dksX4_pattern_1 1 rfl rfl)
theorem dX4_pattern_26 : decode cX4_pattern 26 = .ok (.if_icmp .ne 10, 3) := dk_160 0 10 (dk_at dksX4_pattern_1 2 rfl rfl)
theorem dX4_pattern_29 : decode cX4_pattern 29 = .ok (.aload_n 0, 1) := dk_42 (dk_at dksX4_pattern_1 5 rfl rfl)
theorem dX4_pattern_30 : decode cX4_pattern 30 = .ok (.getfield 170, 3) := dk_180 0 170 (dk_at dksX4_pattern_1 6 rfl rfl)
theorem dX4_pattern_33 : decode cX4_pattern 33 = .ok (.goto 31, 3) := dk_167 0 31 (dk_at dksX4_pattern_1 9 rfl rfl)
theorem dX4_pattern_36 : decode cX4_pattern 36 = .ok (.iload_n 2, 1) := dk_28 (dk_at dksX4_pattern_1 12 rfl rfl)
theorem dX4_pattern_37 : decode cX4_pattern 37 = .ok (.iconst 0, 1) := dk_3 (dk_at dksX4_pattern_1 13 rfl rfl)
theorem dX4_pattern_38 : decode cX4_pattern 38 = .ok (.aload_n 0, 1) := dk_42 (dk_at dksX4_pattern_1 14 rfl rfl)
theorem dX4_pattern_39 : decode cX4_pattern 39 = .ok (.getfield 170, 3) := dk_180 0 170 (dk_at dksX4_pattern_1 15 rfl rfl)
theorem dX4_pattern_42 : decode cX4_pattern 42 = .ok (.iconst 1, 1) := dk_4 (dk_at dksX4_pattern_1 18 rfl rfl)
theorem dX4_pattern_43 : decode cX4_pattern 43 = .ok (.isub, 1) := dk_100 (dk_at dksX4_pattern_1 19 rfl rfl)
theorem dX4_pattern_44 : decode cX4_pattern 44 = .ok (.invokestatic 59, 3) := dk_184 0 59 (dk_at dksX4_pattern_1 20 rfl rfl)
theorem dX4_pattern_47 : decode cX4_pattern 47 = .ok (.ifCond .eq 12, 3) := dk_153 0 12 (dk_at dksX4_pattern_2 0 rfl rfl)
theorem dX4_pattern_50 : decode cX4_pattern 50 = .ok (.aload_n 0, 1) := dk_42 (dk_at dksX4_pattern_2 3 rfl rfl)
theorem dX4_pattern_51 : decode cX4_pattern 51 = .ok (.getfield 40, 3) := dk_180 0 40 (dk_at dksX4_pattern_2 4 rfl rfl)
theorem dX4_pattern_54 : decode cX4_pattern 54 = .ok (.iload_n 2, 1) := dk_28 (dk_at dksX4_pattern_2 7 rfl rfl)
theorem dX4_pattern_55 : decode cX4_pattern 55 = .ok (.iaload, 1) := dk_46 (dk_at dksX4_pattern_2 8 rfl rfl)
theorem dX4_pattern_56 : decode cX4_pattern 56 = .ok (.goto 8, 3) := dk_167 0 8 (dk_at dksX4_pattern_2 9 rfl rfl)
theorem dX4_pattern_59 : decode cX4_pattern 59 = .ok (.aload_n 0, 1) := dk_42 (dk_at dksX4_pattern_2 12 rfl rfl)
theorem dX4_pattern_60 : decode cX4_pattern 60 = .ok (.iconst 1, 1) := dk_4 (dk_at dksX4_pattern_2 13 rfl rfl)
theorem dX4_pattern_61 : decode cX4_pattern 61 = .ok (.invokevirtual 122, 3) := dk_182 0 122 (dk_at dksX4_pattern_2 14 rfl rfl)
theorem dX4_pattern_64 : decode cX4_pattern 64 = .ok (.ireturn, 1) := dk_172 (dk_at dksX4_pattern_2 17 rfl rfl)
abbrev cX4_layPattern : ByteArray := prog_17_method_47_code
def yX4_layPattern : MethodName := ⟨RX4, "layPattern", "(I)V"⟩
def dkwX4_layPattern_6 : List UInt8 := [4, 160, 0, 8, 16, 43, 167, 0, 5, 16, 35, 182, 0, 173, 132, 3, 1, 167, 255, 113, 177]
abbrev dktX4_layPattern_6 : List UInt8 := dkwX4_layPattern_6 ++ []
def dkwX4_layPattern_5 : List UInt8 := [162, 0, 38, 42, 42, 27, 29, 182, 0, 97, 154, 0, 8, 16, 42, 167, 0, 20, 42, 27, 29, 182, 0, 97]
abbrev dktX4_layPattern_5 : List UInt8 := dkwX4_layPattern_5 ++ dktX4_layPattern_6
def dkwX4_layPattern_4 : List UInt8 := [182, 0, 67, 182, 0, 173, 132, 4, 1, 167, 255, 231, 167, 0, 48, 29, 42, 180, 0, 22, 28, 46]
abbrev dktX4_layPattern_4 : List UInt8 := dkwX4_layPattern_4 ++ dktX4_layPattern_5
def dkwX4_layPattern_3 : List UInt8 := [28, 29, 182, 0, 78, 54, 4, 21, 4, 42, 28, 29, 182, 0, 75, 162, 0, 20, 42, 42, 28, 21, 4]
abbrev dktX4_layPattern_3 : List UInt8 := dkwX4_layPattern_3 ++ dktX4_layPattern_4
def dkwX4_layPattern_2 : List UInt8 := [167, 255, 236, 29, 42, 180, 0, 22, 28, 46, 162, 0, 52, 42, 27, 29, 182, 0, 97, 2, 160, 0, 42, 42]
abbrev dktX4_layPattern_2 : List UInt8 := dkwX4_layPattern_2 ++ dktX4_layPattern_3
def dkwX4_layPattern_1 : List UInt8 := [3, 54, 4, 21, 4, 42, 28, 29, 182, 0, 94, 162, 0, 15, 42, 16, 32, 182, 0, 173, 132, 4, 1]
abbrev dktX4_layPattern_1 : List UInt8 := dkwX4_layPattern_1 ++ dktX4_layPattern_2
def dkwX4_layPattern_0 : List UInt8 := [42, 27, 3, 182, 0, 88, 61, 42, 3, 181, 0, 170, 3, 62, 29, 42, 180, 0, 22, 28, 46, 163, 0, 139]
abbrev dktX4_layPattern_0 : List UInt8 := dkwX4_layPattern_0 ++ dktX4_layPattern_1
theorem dksX4_layPattern_0 : cX4_layPattern.data.toList.drop 0 = dktX4_layPattern_0 := by decide +kernel
theorem dksX4_layPattern_1 : cX4_layPattern.data.toList.drop 24 = dktX4_layPattern_1 := dk_seg dksX4_layPattern_0 24 rfl rfl
theorem dksX4_layPattern_2 : cX4_layPattern.data.toList.drop 47 = dktX4_layPattern_2 := dk_seg dksX4_layPattern_1 23 rfl rfl
theorem dksX4_layPattern_3 : cX4_layPattern.data.toList.drop 71 = dktX4_layPattern_3 := dk_seg dksX4_layPattern_2 24 rfl rfl
theorem dksX4_layPattern_4 : cX4_layPattern.data.toList.drop 94 = dktX4_layPattern_4 := dk_seg dksX4_layPattern_3 23 rfl rfl
theorem dksX4_layPattern_5 : cX4_layPattern.data.toList.drop 116 = dktX4_layPattern_5 := dk_seg dksX4_layPattern_4 22 rfl rfl
theorem dksX4_layPattern_6 : cX4_layPattern.data.toList.drop 140 = dktX4_layPattern_6 := dk_seg dksX4_layPattern_5 24 rfl rfl
theorem dX4_layPattern_0 : decode cX4_layPattern 0 = .ok (.aload_n 0, 1) := dk_42 (dk_at dksX4_layPattern_0 0 rfl rfl)
theorem dX4_layPattern_1 : decode cX4_layPattern 1 = .ok (.iload_n 1, 1) := dk_27 (dk_at dksX4_layPattern_0 1 rfl rfl)
theorem dX4_layPattern_2 : decode cX4_layPattern 2 = .ok (.iconst 0, 1) := dk_3 (dk_at dksX4_layPattern_0 2 rfl rfl)
theorem dX4_layPattern_3 : decode cX4_layPattern 3 = .ok (.invokevirtual 88, 3) := dk_182 0 88 (dk_at dksX4_layPattern_0 3 rfl rfl)
theorem dX4_layPattern_6 : decode cX4_layPattern 6 = .ok (.istore_n 2, 1) := dk_61 (dk_at dksX4_layPattern_0 6 rfl rfl)
theorem dX4_layPattern_7 : decode cX4_layPattern 7 = .ok (.aload_n 0, 1) := dk_42 (dk_at dksX4_layPattern_0 7 rfl rfl)
theorem dX4_layPattern_8 : decode cX4_layPattern 8 = .ok (.iconst 0, 1) := dk_3 (dk_at dksX4_layPattern_0 8 rfl rfl)
theorem dX4_layPattern_9 : decode cX4_layPattern 9 = .ok (.putfield 170, 3) := dk_181 0 170 (dk_at dksX4_layPattern_0 9 rfl rfl)
theorem dX4_layPattern_12 : decode cX4_layPattern 12 = .ok (.iconst 0, 1) := dk_3 (dk_at dksX4_layPattern_0 12 rfl rfl)
theorem dX4_layPattern_13 : decode cX4_layPattern 13 = .ok (.istore_n 3, 1) := dk_62 (dk_at dksX4_layPattern_0 13 rfl rfl)
theorem dX4_layPattern_14 : decode cX4_layPattern 14 = .ok (.iload_n 3, 1) := dk_29 (dk_at dksX4_layPattern_0 14 rfl rfl)
theorem dX4_layPattern_15 : decode cX4_layPattern 15 = .ok (.aload_n 0, 1) := dk_42 (dk_at dksX4_layPattern_0 15 rfl rfl)
theorem dX4_layPattern_16 : decode cX4_layPattern 16 = .ok (.getfield 22, 3) := dk_180 0 22 (dk_at dksX4_layPattern_0 16 rfl rfl)
theorem dX4_layPattern_19 : decode cX4_layPattern 19 = .ok (.iload_n 2, 1) := dk_28 (dk_at dksX4_layPattern_0 19 rfl rfl)
theorem dX4_layPattern_20 : decode cX4_layPattern 20 = .ok (.iaload, 1) := dk_46 (dk_at dksX4_layPattern_0 20 rfl rfl)
theorem dX4_layPattern_21 : decode cX4_layPattern 21 = .ok (.if_icmp .gt 139, 3) := dk_163 0 139 (dk_at dksX4_layPattern_0 21 rfl rfl)
theorem dX4_layPattern_24 : decode cX4_layPattern 24 = .ok (.iconst 0, 1) := dk_3 (dk_at dksX4_layPattern_1 0 rfl rfl)
theorem dX4_layPattern_25 : decode cX4_layPattern 25 = .ok (.istore 4, 2) := dk_54 4 (dk_at dksX4_layPattern_1 1 rfl rfl)
theorem dX4_layPattern_27 : decode cX4_layPattern 27 = .ok (.iload 4, 2) := dk_21 4 (dk_at dksX4_layPattern_1 3 rfl rfl)
theorem dX4_layPattern_29 : decode cX4_layPattern 29 = .ok (.aload_n 0, 1) := dk_42 (dk_at dksX4_layPattern_1 5 rfl rfl)
theorem dX4_layPattern_30 : decode cX4_layPattern 30 = .ok (.iload_n 2, 1) := dk_28 (dk_at dksX4_layPattern_1 6 rfl rfl)
theorem dX4_layPattern_31 : decode cX4_layPattern 31 = .ok (.iload_n 3, 1) := dk_29 (dk_at dksX4_layPattern_1 7 rfl rfl)
theorem dX4_layPattern_32 : decode cX4_layPattern 32 = .ok (.invokevirtual 94, 3) := dk_182 0 94 (dk_at dksX4_layPattern_1 8 rfl rfl)
theorem dX4_layPattern_35 : decode cX4_layPattern 35 = .ok (.if_icmp .ge 15, 3) := dk_162 0 15 (dk_at dksX4_layPattern_1 11 rfl rfl)
theorem dX4_layPattern_38 : decode cX4_layPattern 38 = .ok (.aload_n 0, 1) := dk_42 (dk_at dksX4_layPattern_1 14 rfl rfl)
theorem dX4_layPattern_39 : decode cX4_layPattern 39 = .ok (.bipush 32, 2) := dk_16 32 (dk_at dksX4_layPattern_1 15 rfl rfl)
theorem dX4_layPattern_41 : decode cX4_layPattern 41 = .ok (.invokevirtual 173, 3) := dk_182 0 173 (dk_at dksX4_layPattern_1 17 rfl rfl)
theorem dX4_layPattern_44 : decode cX4_layPattern 44 = .ok (.iinc 4 1, 3) := dk_132 4 1 (dk_at dksX4_layPattern_1 20 rfl rfl)
theorem dX4_layPattern_47 : decode cX4_layPattern 47 = .ok (.goto (-20), 3) := dk_167 255 236 (dk_at dksX4_layPattern_2 0 rfl rfl)
theorem dX4_layPattern_50 : decode cX4_layPattern 50 = .ok (.iload_n 3, 1) := dk_29 (dk_at dksX4_layPattern_2 3 rfl rfl)
theorem dX4_layPattern_51 : decode cX4_layPattern 51 = .ok (.aload_n 0, 1) := dk_42 (dk_at dksX4_layPattern_2 4 rfl rfl)
theorem dX4_layPattern_52 : decode cX4_layPattern 52 = .ok (.getfield 22, 3) := dk_180 0 22 (dk_at dksX4_layPattern_2 5 rfl rfl)
theorem dX4_layPattern_55 : decode cX4_layPattern 55 = .ok (.iload_n 2, 1) := dk_28 (dk_at dksX4_layPattern_2 8 rfl rfl)
theorem dX4_layPattern_56 : decode cX4_layPattern 56 = .ok (.iaload, 1) := dk_46 (dk_at dksX4_layPattern_2 9 rfl rfl)
theorem dX4_layPattern_57 : decode cX4_layPattern 57 = .ok (.if_icmp .ge 52, 3) := dk_162 0 52 (dk_at dksX4_layPattern_2 10 rfl rfl)
theorem dX4_layPattern_60 : decode cX4_layPattern 60 = .ok (.aload_n 0, 1) := dk_42 (dk_at dksX4_layPattern_2 13 rfl rfl)
theorem dX4_layPattern_61 : decode cX4_layPattern 61 = .ok (.iload_n 1, 1) := dk_27 (dk_at dksX4_layPattern_2 14 rfl rfl)
theorem dX4_layPattern_62 : decode cX4_layPattern 62 = .ok (.iload_n 3, 1) := dk_29 (dk_at dksX4_layPattern_2 15 rfl rfl)
theorem dX4_layPattern_63 : decode cX4_layPattern 63 = .ok (.invokevirtual 97, 3) := dk_182 0 97 (dk_at dksX4_layPattern_2 16 rfl rfl)
theorem dX4_layPattern_66 : decode cX4_layPattern 66 = .ok (.iconst (-1), 1) := dk_2 (dk_at dksX4_layPattern_2 19 rfl rfl)
theorem dX4_layPattern_67 : decode cX4_layPattern 67 = .ok (.if_icmp .ne 42, 3) := dk_160 0 42 (dk_at dksX4_layPattern_2 20 rfl rfl)
theorem dX4_layPattern_70 : decode cX4_layPattern 70 = .ok (.aload_n 0, 1) := dk_42 (dk_at dksX4_layPattern_2 23 rfl rfl)
theorem dX4_layPattern_71 : decode cX4_layPattern 71 = .ok (.iload_n 2, 1) := dk_28 (dk_at dksX4_layPattern_3 0 rfl rfl)
theorem dX4_layPattern_72 : decode cX4_layPattern 72 = .ok (.iload_n 3, 1) := dk_29 (dk_at dksX4_layPattern_3 1 rfl rfl)
theorem dX4_layPattern_73 : decode cX4_layPattern 73 = .ok (.invokevirtual 78, 3) := dk_182 0 78 (dk_at dksX4_layPattern_3 2 rfl rfl)
theorem dX4_layPattern_76 : decode cX4_layPattern 76 = .ok (.istore 4, 2) := dk_54 4 (dk_at dksX4_layPattern_3 5 rfl rfl)
theorem dX4_layPattern_78 : decode cX4_layPattern 78 = .ok (.iload 4, 2) := dk_21 4 (dk_at dksX4_layPattern_3 7 rfl rfl)
theorem dX4_layPattern_80 : decode cX4_layPattern 80 = .ok (.aload_n 0, 1) := dk_42 (dk_at dksX4_layPattern_3 9 rfl rfl)
theorem dX4_layPattern_81 : decode cX4_layPattern 81 = .ok (.iload_n 2, 1) := dk_28 (dk_at dksX4_layPattern_3 10 rfl rfl)
theorem dX4_layPattern_82 : decode cX4_layPattern 82 = .ok (.iload_n 3, 1) := dk_29 (dk_at dksX4_layPattern_3 11 rfl rfl)
theorem dX4_layPattern_83 : decode cX4_layPattern 83 = .ok (.invokevirtual 75, 3) := dk_182 0 75 (dk_at dksX4_layPattern_3 12 rfl rfl)
theorem dX4_layPattern_86 : decode cX4_layPattern 86 = .ok (.if_icmp .ge 20, 3) := dk_162 0 20 (dk_at dksX4_layPattern_3 15 rfl rfl)
theorem dX4_layPattern_89 : decode cX4_layPattern 89 = .ok (.aload_n 0, 1) := dk_42 (dk_at dksX4_layPattern_3 18 rfl rfl)
theorem dX4_layPattern_90 : decode cX4_layPattern 90 = .ok (.aload_n 0, 1) := dk_42 (dk_at dksX4_layPattern_3 19 rfl rfl)
theorem dX4_layPattern_91 : decode cX4_layPattern 91 = .ok (.iload_n 2, 1) := dk_28 (dk_at dksX4_layPattern_3 20 rfl rfl)
theorem dX4_layPattern_92 : decode cX4_layPattern 92 = .ok (.iload 4, 2) := dk_21 4 (dk_at dksX4_layPattern_3 21 rfl rfl)
theorem dX4_layPattern_94 : decode cX4_layPattern 94 = .ok (.invokevirtual 67, 3) := dk_182 0 67 (dk_at dksX4_layPattern_4 0 rfl rfl)
theorem dX4_layPattern_97 : decode cX4_layPattern 97 = .ok (.invokevirtual 173, 3) := dk_182 0 173 (dk_at dksX4_layPattern_4 3 rfl rfl)
theorem dX4_layPattern_100 : decode cX4_layPattern 100 = .ok (.iinc 4 1, 3) := dk_132 4 1 (dk_at dksX4_layPattern_4 6 rfl rfl)
theorem dX4_layPattern_103 : decode cX4_layPattern 103 = .ok (.goto (-25), 3) := dk_167 255 231 (dk_at dksX4_layPattern_4 9 rfl rfl)
theorem dX4_layPattern_106 : decode cX4_layPattern 106 = .ok (.goto 48, 3) := dk_167 0 48 (dk_at dksX4_layPattern_4 12 rfl rfl)
theorem dX4_layPattern_109 : decode cX4_layPattern 109 = .ok (.iload_n 3, 1) := dk_29 (dk_at dksX4_layPattern_4 15 rfl rfl)
theorem dX4_layPattern_110 : decode cX4_layPattern 110 = .ok (.aload_n 0, 1) := dk_42 (dk_at dksX4_layPattern_4 16 rfl rfl)
theorem dX4_layPattern_111 : decode cX4_layPattern 111 = .ok (.getfield 22, 3) := dk_180 0 22 (dk_at dksX4_layPattern_4 17 rfl rfl)
theorem dX4_layPattern_114 : decode cX4_layPattern 114 = .ok (.iload_n 2, 1) := dk_28 (dk_at dksX4_layPattern_4 20 rfl rfl)
theorem dX4_layPattern_115 : decode cX4_layPattern 115 = .ok (.iaload, 1) := dk_46 (dk_at dksX4_layPattern_4 21 rfl rfl)
theorem dX4_layPattern_116 : decode cX4_layPattern 116 = .ok (.if_icmp .ge 38, 3) := dk_162 0 38 (dk_at dksX4_layPattern_5 0 rfl rfl)
theorem dX4_layPattern_119 : decode cX4_layPattern 119 = .ok (.aload_n 0, 1) := dk_42 (dk_at dksX4_layPattern_5 3 rfl rfl)
theorem dX4_layPattern_120 : decode cX4_layPattern 120 = .ok (.aload_n 0, 1) := dk_42 (dk_at dksX4_layPattern_5 4 rfl rfl)
theorem dX4_layPattern_121 : decode cX4_layPattern 121 = .ok (.iload_n 1, 1) := dk_27 (dk_at dksX4_layPattern_5 5 rfl rfl)
theorem dX4_layPattern_122 : decode cX4_layPattern 122 = .ok (.iload_n 3, 1) := dk_29 (dk_at dksX4_layPattern_5 6 rfl rfl)
theorem dX4_layPattern_123 : decode cX4_layPattern 123 = .ok (.invokevirtual 97, 3) := dk_182 0 97 (dk_at dksX4_layPattern_5 7 rfl rfl)
theorem dX4_layPattern_126 : decode cX4_layPattern 126 = .ok (.ifCond .ne 8, 3) := dk_154 0 8 (dk_at dksX4_layPattern_5 10 rfl rfl)
theorem dX4_layPattern_129 : decode cX4_layPattern 129 = .ok (.bipush 42, 2) := dk_16 42 (dk_at dksX4_layPattern_5 13 rfl rfl)
theorem dX4_layPattern_131 : decode cX4_layPattern 131 = .ok (.goto 20, 3) := dk_167 0 20 (dk_at dksX4_layPattern_5 15 rfl rfl)
theorem dX4_layPattern_134 : decode cX4_layPattern 134 = .ok (.aload_n 0, 1) := dk_42 (dk_at dksX4_layPattern_5 18 rfl rfl)
theorem dX4_layPattern_135 : decode cX4_layPattern 135 = .ok (.iload_n 1, 1) := dk_27 (dk_at dksX4_layPattern_5 19 rfl rfl)
theorem dX4_layPattern_136 : decode cX4_layPattern 136 = .ok (.iload_n 3, 1) := dk_29 (dk_at dksX4_layPattern_5 20 rfl rfl)
theorem dX4_layPattern_137 : decode cX4_layPattern 137 = .ok (.invokevirtual 97, 3) := dk_182 0 97 (dk_at dksX4_layPattern_5 21 rfl rfl)
theorem dX4_layPattern_140 : decode cX4_layPattern 140 = .ok (.iconst 1, 1) := dk_4 (dk_at dksX4_layPattern_6 0 rfl rfl)
theorem dX4_layPattern_141 : decode cX4_layPattern 141 = .ok (.if_icmp .ne 8, 3) := dk_160 0 8 (dk_at dksX4_layPattern_6 1 rfl rfl)
theorem dX4_layPattern_144 : decode cX4_layPattern 144 = .ok (.bipush 43, 2) := dk_16 43 (dk_at dksX4_layPattern_6 4 rfl rfl)
theorem dX4_layPattern_146 : decode cX4_layPattern 146 = .ok (.goto 5, 3) := dk_167 0 5 (dk_at dksX4_layPattern_6 6 rfl rfl)
theorem dX4_layPattern_149 : decode cX4_layPattern 149 = .ok (.bipush 35, 2) := dk_16 35 (dk_at dksX4_layPattern_6 9 rfl rfl)
theorem dX4_layPattern_151 : decode cX4_layPattern 151 = .ok (.invokevirtual 173, 3) := dk_182 0 173 (dk_at dksX4_layPattern_6 11 rfl rfl)
theorem dX4_layPattern_154 : decode cX4_layPattern 154 = .ok (.iinc 3 1, 3) := dk_132 3 1 (dk_at dksX4_layPattern_6 14 rfl rfl)
theorem dX4_layPattern_157 : decode cX4_layPattern 157 = .ok (.goto (-143), 3) := dk_167 255 113 (dk_at dksX4_layPattern_6 17 rfl rfl)
theorem dX4_layPattern_160 : decode cX4_layPattern 160 = .ok (.return_, 1) := dk_177 (dk_at dksX4_layPattern_6 20 rfl rfl)
abbrev cX4_write : ByteArray := prog_17_method_46_code
def yX4_write : MethodName := ⟨RX4, "write", "(I)V"⟩
def dkwX4_write_0 : List UInt8 := [42, 180, 0, 40, 42, 180, 0, 170, 27, 79, 42, 89, 180, 0, 170, 4, 96, 181, 0, 170, 177]
abbrev dktX4_write_0 : List UInt8 := dkwX4_write_0 ++ []
theorem dksX4_write_0 : cX4_write.data.toList.drop 0 = dktX4_write_0 := by decide +kernel
theorem dX4_write_0 : decode cX4_write 0 = .ok (.aload_n 0, 1) := dk_42 (dk_at dksX4_write_0 0 rfl rfl)
theorem dX4_write_1 : decode cX4_write 1 = .ok (.getfield 40, 3) := dk_180 0 40 (dk_at dksX4_write_0 1 rfl rfl)
theorem dX4_write_4 : decode cX4_write 4 = .ok (.aload_n 0, 1) := dk_42 (dk_at dksX4_write_0 4 rfl rfl)
theorem dX4_write_5 : decode cX4_write 5 = .ok (.getfield 170, 3) := dk_180 0 170 (dk_at dksX4_write_0 5 rfl rfl)
theorem dX4_write_8 : decode cX4_write 8 = .ok (.iload_n 1, 1) := dk_27 (dk_at dksX4_write_0 8 rfl rfl)
theorem dX4_write_9 : decode cX4_write 9 = .ok (.iastore, 1) := dk_79 (dk_at dksX4_write_0 9 rfl rfl)
theorem dX4_write_10 : decode cX4_write 10 = .ok (.aload_n 0, 1) := dk_42 (dk_at dksX4_write_0 10 rfl rfl)
theorem dX4_write_11 : decode cX4_write 11 = .ok (.dup, 1) := dk_89 (dk_at dksX4_write_0 11 rfl rfl)
theorem dX4_write_12 : decode cX4_write 12 = .ok (.getfield 170, 3) := dk_180 0 170 (dk_at dksX4_write_0 12 rfl rfl)
theorem dX4_write_15 : decode cX4_write 15 = .ok (.iconst 1, 1) := dk_4 (dk_at dksX4_write_0 15 rfl rfl)
theorem dX4_write_16 : decode cX4_write 16 = .ok (.iadd, 1) := dk_96 (dk_at dksX4_write_0 16 rfl rfl)
theorem dX4_write_17 : decode cX4_write 17 = .ok (.putfield 170, 3) := dk_181 0 170 (dk_at dksX4_write_0 17 rfl rfl)
theorem dX4_write_20 : decode cX4_write 20 = .ok (.return_, 1) := dk_177 (dk_at dksX4_write_0 20 rfl rfl)
abbrev cX4_row : ByteArray := prog_17_method_49_code
def yX4_row : MethodName := ⟨RX4, "row", "(II)I"⟩
def dkwX4_row_2 : List UInt8 := [167, 0, 8, 42, 4, 182, 0, 122, 172]
abbrev dktX4_row_2 : List UInt8 := dkwX4_row_2 ++ []
def dkwX4_row_1 : List UInt8 := [184, 0, 59, 153, 0, 7, 4, 167, 0, 4, 3, 62, 29, 153, 0, 12, 42, 27, 28, 182, 0, 88]
abbrev dktX4_row_1 : List UInt8 := dkwX4_row_1 ++ dktX4_row_2
def dkwX4_row_0 : List UInt8 := [42, 3, 181, 0, 55, 42, 27, 182, 0, 91, 153, 0, 22, 28, 3, 42, 27, 182, 0, 164, 4, 100]
abbrev dktX4_row_0 : List UInt8 := dkwX4_row_0 ++ dktX4_row_1
theorem dksX4_row_0 : cX4_row.data.toList.drop 0 = dktX4_row_0 := by decide +kernel
theorem dksX4_row_1 : cX4_row.data.toList.drop 22 = dktX4_row_1 := dk_seg dksX4_row_0 22 rfl rfl
theorem dksX4_row_2 : cX4_row.data.toList.drop 44 = dktX4_row_2 := dk_seg dksX4_row_1 22 rfl rfl
theorem dX4_row_0 : decode cX4_row 0 = .ok (.aload_n 0, 1) := dk_42 (dk_at dksX4_row_0 0 rfl rfl)
theorem dX4_row_1 : decode cX4_row 1 = .ok (.iconst 0, 1) := dk_3 (dk_at dksX4_row_0 1 rfl rfl)
theorem dX4_row_2 : decode cX4_row 2 = .ok (.putfield 55, 3) := dk_181 0 55 (dk_at dksX4_row_0 2 rfl rfl)
theorem dX4_row_5 : decode cX4_row 5 = .ok (.aload_n 0, 1) := dk_42 (dk_at dksX4_row_0 5 rfl rfl)
theorem dX4_row_6 : decode cX4_row 6 = .ok (.iload_n 1, 1) := dk_27 (dk_at dksX4_row_0 6 rfl rfl)
theorem dX4_row_7 : decode cX4_row 7 = .ok (.invokevirtual 91, 3) := dk_182 0 91 (dk_at dksX4_row_0 7 rfl rfl)
theorem dX4_row_10 : decode cX4_row 10 = .ok (.ifCond .eq 22, 3) := dk_153 0 22 (dk_at dksX4_row_0 10 rfl rfl)
theorem dX4_row_13 : decode cX4_row 13 = .ok (.iload_n 2, 1) := dk_28 (dk_at dksX4_row_0 13 rfl rfl)
theorem dX4_row_14 : decode cX4_row 14 = .ok (.iconst 0, 1) := dk_3 (dk_at dksX4_row_0 14 rfl rfl)
theorem dX4_row_15 : decode cX4_row 15 = .ok (.aload_n 0, 1) := dk_42 (dk_at dksX4_row_0 15 rfl rfl)
theorem dX4_row_16 : decode cX4_row 16 = .ok (.iload_n 1, 1) := dk_27 (dk_at dksX4_row_0 16 rfl rfl)
theorem dX4_row_17 : decode cX4_row 17 = .ok (.invokevirtual 164, 3) := dk_182 0 164 (dk_at dksX4_row_0 17 rfl rfl)
theorem dX4_row_20 : decode cX4_row 20 = .ok (.iconst 1, 1) := dk_4 (dk_at dksX4_row_0 20 rfl rfl)
theorem dX4_row_21 : decode cX4_row 21 = .ok (.isub, 1) := dk_100 (dk_at dksX4_row_0 21 rfl rfl)
theorem dX4_row_22 : decode cX4_row 22 = .ok (.invokestatic 59, 3) := dk_184 0 59 (dk_at dksX4_row_1 0 rfl rfl)
theorem dX4_row_25 : decode cX4_row 25 = .ok (.ifCond .eq 7, 3) := dk_153 0 7 (dk_at dksX4_row_1 3 rfl rfl)
theorem dX4_row_28 : decode cX4_row 28 = .ok (.iconst 1, 1) := dk_4 (dk_at dksX4_row_1 6 rfl rfl)
theorem dX4_row_29 : decode cX4_row 29 = .ok (.goto 4, 3) := dk_167 0 4 (dk_at dksX4_row_1 7 rfl rfl)
theorem dX4_row_32 : decode cX4_row 32 = .ok (.iconst 0, 1) := dk_3 (dk_at dksX4_row_1 10 rfl rfl)
theorem dX4_row_33 : decode cX4_row 33 = .ok (.istore_n 3, 1) := dk_62 (dk_at dksX4_row_1 11 rfl rfl)
theorem dX4_row_34 : decode cX4_row 34 = .ok (.iload_n 3, 1) := dk_29 (dk_at dksX4_row_1 12 rfl rfl)
theorem dX4_row_35 : decode cX4_row 35 = .ok (.ifCond .eq 12, 3) := dk_153 0 12 (dk_at dksX4_row_1 13 rfl rfl)
theorem dX4_row_38 : decode cX4_row 38 = .ok (.aload_n 0, 1) := dk_42 (dk_at dksX4_row_1 16 rfl rfl)
theorem dX4_row_39 : decode cX4_row 39 = .ok (.iload_n 1, 1) := dk_27 (dk_at dksX4_row_1 17 rfl rfl)
theorem dX4_row_40 : decode cX4_row 40 = .ok (.iload_n 2, 1) := dk_28 (dk_at dksX4_row_1 18 rfl rfl)
theorem dX4_row_41 : decode cX4_row 41 = .ok (.invokevirtual 88, 3) := dk_182 0 88 (dk_at dksX4_row_1 19 rfl rfl)
theorem dX4_row_44 : decode cX4_row 44 = .ok (.goto 8, 3) := dk_167 0 8 (dk_at dksX4_row_2 0 rfl rfl)
theorem dX4_row_47 : decode cX4_row 47 = .ok (.aload_n 0, 1) := dk_42 (dk_at dksX4_row_2 3 rfl rfl)
theorem dX4_row_48 : decode cX4_row 48 = .ok (.iconst 1, 1) := dk_4 (dk_at dksX4_row_2 4 rfl rfl)
theorem dX4_row_49 : decode cX4_row 49 = .ok (.invokevirtual 122, 3) := dk_182 0 122 (dk_at dksX4_row_2 5 rfl rfl)
theorem dX4_row_52 : decode cX4_row 52 = .ok (.ireturn, 1) := dk_172 (dk_at dksX4_row_2 8 rfl rfl)
abbrev cX4_count : ByteArray := prog_17_method_62_code
def yX4_count : MethodName := ⟨RX4, "count", "(I)I"⟩
def dkwX4_count_4 : List UInt8 := [42, 4, 182, 0, 122, 172]
abbrev dktX4_count_4 : List UInt8 := dkwX4_count_4 ++ []
def dkwX4_count_3 : List UInt8 := [42, 180, 0, 9, 3, 46, 172, 42, 182, 0, 214, 172, 28, 172, 42, 182, 0, 217, 172, 42, 182, 0, 220, 172]
abbrev dktX4_count_3 : List UInt8 := dkwX4_count_3 ++ dktX4_count_4
def dkwX4_count_2 : List UInt8 := [170, 0, 0, 0, 0, 58, 0, 0, 0, 0, 0, 0, 0, 4, 0, 0, 0, 34, 0, 0, 0, 41, 0, 0, 0, 46, 0, 0, 0, 48, 0, 0, 0, 53]
abbrev dktX4_count_2 : List UInt8 := dkwX4_count_2 ++ dktX4_count_3
def dkwX4_count_1 : List UInt8 := [42, 29, 182, 0, 161, 167, 0, 4, 3, 96, 61, 132, 3, 1, 167, 255, 227, 27]
abbrev dktX4_count_1 : List UInt8 := dkwX4_count_1 ++ dktX4_count_2
def dkwX4_count_0 : List UInt8 := [42, 3, 181, 0, 55, 3, 61, 3, 62, 29, 16, 12, 162, 0, 29, 28, 42, 29, 182, 0, 91, 153, 0, 11]
abbrev dktX4_count_0 : List UInt8 := dkwX4_count_0 ++ dktX4_count_1
theorem dksX4_count_0 : cX4_count.data.toList.drop 0 = dktX4_count_0 := by decide +kernel
theorem dksX4_count_1 : cX4_count.data.toList.drop 24 = dktX4_count_1 := dk_seg dksX4_count_0 24 rfl rfl
theorem dksX4_count_2 : cX4_count.data.toList.drop 42 = dktX4_count_2 := dk_seg dksX4_count_1 18 rfl rfl
theorem dksX4_count_3 : cX4_count.data.toList.drop 76 = dktX4_count_3 := dk_seg dksX4_count_2 34 rfl rfl
theorem dksX4_count_4 : cX4_count.data.toList.drop 100 = dktX4_count_4 := dk_seg dksX4_count_3 24 rfl rfl
theorem dX4_count_0 : decode cX4_count 0 = .ok (.aload_n 0, 1) := dk_42 (dk_at dksX4_count_0 0 rfl rfl)
theorem dX4_count_1 : decode cX4_count 1 = .ok (.iconst 0, 1) := dk_3 (dk_at dksX4_count_0 1 rfl rfl)
theorem dX4_count_2 : decode cX4_count 2 = .ok (.putfield 55, 3) := dk_181 0 55 (dk_at dksX4_count_0 2 rfl rfl)
theorem dX4_count_5 : decode cX4_count 5 = .ok (.iconst 0, 1) := dk_3 (dk_at dksX4_count_0 5 rfl rfl)
theorem dX4_count_6 : decode cX4_count 6 = .ok (.istore_n 2, 1) := dk_61 (dk_at dksX4_count_0 6 rfl rfl)
theorem dX4_count_7 : decode cX4_count 7 = .ok (.iconst 0, 1) := dk_3 (dk_at dksX4_count_0 7 rfl rfl)
theorem dX4_count_8 : decode cX4_count 8 = .ok (.istore_n 3, 1) := dk_62 (dk_at dksX4_count_0 8 rfl rfl)
theorem dX4_count_9 : decode cX4_count 9 = .ok (.iload_n 3, 1) := dk_29 (dk_at dksX4_count_0 9 rfl rfl)
theorem dX4_count_10 : decode cX4_count 10 = .ok (.bipush 12, 2) := dk_16 12 (dk_at dksX4_count_0 10 rfl rfl)
theorem dX4_count_12 : decode cX4_count 12 = .ok (.if_icmp .ge 29, 3) := dk_162 0 29 (dk_at dksX4_count_0 12 rfl rfl)
theorem dX4_count_15 : decode cX4_count 15 = .ok (.iload_n 2, 1) := dk_28 (dk_at dksX4_count_0 15 rfl rfl)
theorem dX4_count_16 : decode cX4_count 16 = .ok (.aload_n 0, 1) := dk_42 (dk_at dksX4_count_0 16 rfl rfl)
theorem dX4_count_17 : decode cX4_count 17 = .ok (.iload_n 3, 1) := dk_29 (dk_at dksX4_count_0 17 rfl rfl)
theorem dX4_count_18 : decode cX4_count 18 = .ok (.invokevirtual 91, 3) := dk_182 0 91 (dk_at dksX4_count_0 18 rfl rfl)
theorem dX4_count_21 : decode cX4_count 21 = .ok (.ifCond .eq 11, 3) := dk_153 0 11 (dk_at dksX4_count_0 21 rfl rfl)
theorem dX4_count_24 : decode cX4_count 24 = .ok (.aload_n 0, 1) := dk_42 (dk_at dksX4_count_1 0 rfl rfl)
theorem dX4_count_25 : decode cX4_count 25 = .ok (.iload_n 3, 1) := dk_29 (dk_at dksX4_count_1 1 rfl rfl)
theorem dX4_count_26 : decode cX4_count 26 = .ok (.invokevirtual 161, 3) := dk_182 0 161 (dk_at dksX4_count_1 2 rfl rfl)
theorem dX4_count_29 : decode cX4_count 29 = .ok (.goto 4, 3) := dk_167 0 4 (dk_at dksX4_count_1 5 rfl rfl)
theorem dX4_count_32 : decode cX4_count 32 = .ok (.iconst 0, 1) := dk_3 (dk_at dksX4_count_1 8 rfl rfl)
theorem dX4_count_33 : decode cX4_count 33 = .ok (.iadd, 1) := dk_96 (dk_at dksX4_count_1 9 rfl rfl)
theorem dX4_count_34 : decode cX4_count 34 = .ok (.istore_n 2, 1) := dk_61 (dk_at dksX4_count_1 10 rfl rfl)
theorem dX4_count_35 : decode cX4_count 35 = .ok (.iinc 3 1, 3) := dk_132 3 1 (dk_at dksX4_count_1 11 rfl rfl)
theorem dX4_count_38 : decode cX4_count 38 = .ok (.goto (-29), 3) := dk_167 255 227 (dk_at dksX4_count_1 14 rfl rfl)
theorem dX4_count_41 : decode cX4_count 41 = .ok (.iload_n 1, 1) := dk_27 (dk_at dksX4_count_1 17 rfl rfl)
theorem dX4_count_42 : decode cX4_count 42 = .ok (.tableswitch 58 0 4 #[34, 41, 46, 48, 53], 34) := by decide +kernel
theorem dX4_count_76 : decode cX4_count 76 = .ok (.aload_n 0, 1) := dk_42 (dk_at dksX4_count_3 0 rfl rfl)
theorem dX4_count_77 : decode cX4_count 77 = .ok (.getfield 9, 3) := dk_180 0 9 (dk_at dksX4_count_3 1 rfl rfl)
theorem dX4_count_80 : decode cX4_count 80 = .ok (.iconst 0, 1) := dk_3 (dk_at dksX4_count_3 4 rfl rfl)
theorem dX4_count_81 : decode cX4_count 81 = .ok (.iaload, 1) := dk_46 (dk_at dksX4_count_3 5 rfl rfl)
theorem dX4_count_82 : decode cX4_count 82 = .ok (.ireturn, 1) := dk_172 (dk_at dksX4_count_3 6 rfl rfl)
theorem dX4_count_83 : decode cX4_count 83 = .ok (.aload_n 0, 1) := dk_42 (dk_at dksX4_count_3 7 rfl rfl)
theorem dX4_count_84 : decode cX4_count 84 = .ok (.invokevirtual 214, 3) := dk_182 0 214 (dk_at dksX4_count_3 8 rfl rfl)
theorem dX4_count_87 : decode cX4_count 87 = .ok (.ireturn, 1) := dk_172 (dk_at dksX4_count_3 11 rfl rfl)
theorem dX4_count_88 : decode cX4_count 88 = .ok (.iload_n 2, 1) := dk_28 (dk_at dksX4_count_3 12 rfl rfl)
theorem dX4_count_89 : decode cX4_count 89 = .ok (.ireturn, 1) := dk_172 (dk_at dksX4_count_3 13 rfl rfl)
theorem dX4_count_90 : decode cX4_count 90 = .ok (.aload_n 0, 1) := dk_42 (dk_at dksX4_count_3 14 rfl rfl)
theorem dX4_count_91 : decode cX4_count 91 = .ok (.invokevirtual 217, 3) := dk_182 0 217 (dk_at dksX4_count_3 15 rfl rfl)
theorem dX4_count_94 : decode cX4_count 94 = .ok (.ireturn, 1) := dk_172 (dk_at dksX4_count_3 18 rfl rfl)
theorem dX4_count_95 : decode cX4_count 95 = .ok (.aload_n 0, 1) := dk_42 (dk_at dksX4_count_3 19 rfl rfl)
theorem dX4_count_96 : decode cX4_count 96 = .ok (.invokevirtual 220, 3) := dk_182 0 220 (dk_at dksX4_count_3 20 rfl rfl)
theorem dX4_count_99 : decode cX4_count 99 = .ok (.ireturn, 1) := dk_172 (dk_at dksX4_count_3 23 rfl rfl)
theorem dX4_count_100 : decode cX4_count 100 = .ok (.aload_n 0, 1) := dk_42 (dk_at dksX4_count_4 0 rfl rfl)
theorem dX4_count_101 : decode cX4_count 101 = .ok (.iconst 1, 1) := dk_4 (dk_at dksX4_count_4 1 rfl rfl)
theorem dX4_count_102 : decode cX4_count 102 = .ok (.invokevirtual 122, 3) := dk_182 0 122 (dk_at dksX4_count_4 2 rfl rfl)
theorem dX4_count_105 : decode cX4_count 105 = .ok (.ireturn, 1) := dk_172 (dk_at dksX4_count_4 5 rfl rfl)
abbrev cX4_templateMany : ByteArray := prog_17_method_21_code
def yX4_templateMany : MethodName := ⟨RX4, "templateMany", "()I"⟩
def dkwX4_templateMany_1 : List UInt8 := [96, 60, 132, 2, 1, 167, 255, 231, 27, 172]
abbrev dktX4_templateMany_1 : List UInt8 := dkwX4_templateMany_1 ++ []
def dkwX4_templateMany_0 : List UInt8 := [3, 60, 3, 61, 28, 16, 12, 162, 0, 25, 27, 42, 28, 182, 0, 91, 153, 0, 7, 4, 167, 0, 4, 3]
abbrev dktX4_templateMany_0 : List UInt8 := dkwX4_templateMany_0 ++ dktX4_templateMany_1
theorem dksX4_templateMany_0 : cX4_templateMany.data.toList.drop 0 = dktX4_templateMany_0 := by decide +kernel
theorem dksX4_templateMany_1 : cX4_templateMany.data.toList.drop 24 = dktX4_templateMany_1 := dk_seg dksX4_templateMany_0 24 rfl rfl
theorem dX4_templateMany_0 : decode cX4_templateMany 0 = .ok (.iconst 0, 1) := dk_3 (dk_at dksX4_templateMany_0 0 rfl rfl)
theorem dX4_templateMany_1 : decode cX4_templateMany 1 = .ok (.istore_n 1, 1) := dk_60 (dk_at dksX4_templateMany_0 1 rfl rfl)
theorem dX4_templateMany_2 : decode cX4_templateMany 2 = .ok (.iconst 0, 1) := dk_3 (dk_at dksX4_templateMany_0 2 rfl rfl)
theorem dX4_templateMany_3 : decode cX4_templateMany 3 = .ok (.istore_n 2, 1) := dk_61 (dk_at dksX4_templateMany_0 3 rfl rfl)
theorem dX4_templateMany_4 : decode cX4_templateMany 4 = .ok (.iload_n 2, 1) := dk_28 (dk_at dksX4_templateMany_0 4 rfl rfl)
theorem dX4_templateMany_5 : decode cX4_templateMany 5 = .ok (.bipush 12, 2) := dk_16 12 (dk_at dksX4_templateMany_0 5 rfl rfl)
theorem dX4_templateMany_7 : decode cX4_templateMany 7 = .ok (.if_icmp .ge 25, 3) := dk_162 0 25 (dk_at dksX4_templateMany_0 7 rfl rfl)
theorem dX4_templateMany_10 : decode cX4_templateMany 10 = .ok (.iload_n 1, 1) := dk_27 (dk_at dksX4_templateMany_0 10 rfl rfl)
theorem dX4_templateMany_11 : decode cX4_templateMany 11 = .ok (.aload_n 0, 1) := dk_42 (dk_at dksX4_templateMany_0 11 rfl rfl)
theorem dX4_templateMany_12 : decode cX4_templateMany 12 = .ok (.iload_n 2, 1) := dk_28 (dk_at dksX4_templateMany_0 12 rfl rfl)
theorem dX4_templateMany_13 : decode cX4_templateMany 13 = .ok (.invokevirtual 91, 3) := dk_182 0 91 (dk_at dksX4_templateMany_0 13 rfl rfl)
theorem dX4_templateMany_16 : decode cX4_templateMany 16 = .ok (.ifCond .eq 7, 3) := dk_153 0 7 (dk_at dksX4_templateMany_0 16 rfl rfl)
theorem dX4_templateMany_19 : decode cX4_templateMany 19 = .ok (.iconst 1, 1) := dk_4 (dk_at dksX4_templateMany_0 19 rfl rfl)
theorem dX4_templateMany_20 : decode cX4_templateMany 20 = .ok (.goto 4, 3) := dk_167 0 4 (dk_at dksX4_templateMany_0 20 rfl rfl)
theorem dX4_templateMany_23 : decode cX4_templateMany 23 = .ok (.iconst 0, 1) := dk_3 (dk_at dksX4_templateMany_0 23 rfl rfl)
theorem dX4_templateMany_24 : decode cX4_templateMany 24 = .ok (.iadd, 1) := dk_96 (dk_at dksX4_templateMany_1 0 rfl rfl)
theorem dX4_templateMany_25 : decode cX4_templateMany 25 = .ok (.istore_n 1, 1) := dk_60 (dk_at dksX4_templateMany_1 1 rfl rfl)
theorem dX4_templateMany_26 : decode cX4_templateMany 26 = .ok (.iinc 2 1, 3) := dk_132 2 1 (dk_at dksX4_templateMany_1 2 rfl rfl)
theorem dX4_templateMany_29 : decode cX4_templateMany 29 = .ok (.goto (-25), 3) := dk_167 255 231 (dk_at dksX4_templateMany_1 5 rfl rfl)
theorem dX4_templateMany_32 : decode cX4_templateMany 32 = .ok (.iload_n 1, 1) := dk_27 (dk_at dksX4_templateMany_1 8 rfl rfl)
theorem dX4_templateMany_33 : decode cX4_templateMany 33 = .ok (.ireturn, 1) := dk_172 (dk_at dksX4_templateMany_1 9 rfl rfl)
abbrev cX4_characters : ByteArray := prog_17_method_61_code
def yX4_characters : MethodName := ⟨RX4, "characters", "()I"⟩
def dkwX4_characters_1 : List UInt8 := [132, 2, 1, 167, 255, 235, 27, 172]
abbrev dktX4_characters_1 : List UInt8 := dkwX4_characters_1 ++ []
def dkwX4_characters_0 : List UInt8 := [3, 60, 3, 61, 28, 42, 180, 0, 9, 3, 46, 162, 0, 17, 27, 42, 28, 182, 0, 63, 96, 60]
abbrev dktX4_characters_0 : List UInt8 := dkwX4_characters_0 ++ dktX4_characters_1
theorem dksX4_characters_0 : cX4_characters.data.toList.drop 0 = dktX4_characters_0 := by decide +kernel
theorem dksX4_characters_1 : cX4_characters.data.toList.drop 22 = dktX4_characters_1 := dk_seg dksX4_characters_0 22 rfl rfl
theorem dX4_characters_0 : decode cX4_characters 0 = .ok (.iconst 0, 1) := dk_3 (dk_at dksX4_characters_0 0 rfl rfl)
theorem dX4_characters_1 : decode cX4_characters 1 = .ok (.istore_n 1, 1) := dk_60 (dk_at dksX4_characters_0 1 rfl rfl)
theorem dX4_characters_2 : decode cX4_characters 2 = .ok (.iconst 0, 1) := dk_3 (dk_at dksX4_characters_0 2 rfl rfl)
theorem dX4_characters_3 : decode cX4_characters 3 = .ok (.istore_n 2, 1) := dk_61 (dk_at dksX4_characters_0 3 rfl rfl)
theorem dX4_characters_4 : decode cX4_characters 4 = .ok (.iload_n 2, 1) := dk_28 (dk_at dksX4_characters_0 4 rfl rfl)
theorem dX4_characters_5 : decode cX4_characters 5 = .ok (.aload_n 0, 1) := dk_42 (dk_at dksX4_characters_0 5 rfl rfl)
theorem dX4_characters_6 : decode cX4_characters 6 = .ok (.getfield 9, 3) := dk_180 0 9 (dk_at dksX4_characters_0 6 rfl rfl)
theorem dX4_characters_9 : decode cX4_characters 9 = .ok (.iconst 0, 1) := dk_3 (dk_at dksX4_characters_0 9 rfl rfl)
theorem dX4_characters_10 : decode cX4_characters 10 = .ok (.iaload, 1) := dk_46 (dk_at dksX4_characters_0 10 rfl rfl)
theorem dX4_characters_11 : decode cX4_characters 11 = .ok (.if_icmp .ge 17, 3) := dk_162 0 17 (dk_at dksX4_characters_0 11 rfl rfl)
theorem dX4_characters_14 : decode cX4_characters 14 = .ok (.iload_n 1, 1) := dk_27 (dk_at dksX4_characters_0 14 rfl rfl)
theorem dX4_characters_15 : decode cX4_characters 15 = .ok (.aload_n 0, 1) := dk_42 (dk_at dksX4_characters_0 15 rfl rfl)
theorem dX4_characters_16 : decode cX4_characters 16 = .ok (.iload_n 2, 1) := dk_28 (dk_at dksX4_characters_0 16 rfl rfl)
theorem dX4_characters_17 : decode cX4_characters 17 = .ok (.invokevirtual 63, 3) := dk_182 0 63 (dk_at dksX4_characters_0 17 rfl rfl)
theorem dX4_characters_20 : decode cX4_characters 20 = .ok (.iadd, 1) := dk_96 (dk_at dksX4_characters_0 20 rfl rfl)
theorem dX4_characters_21 : decode cX4_characters 21 = .ok (.istore_n 1, 1) := dk_60 (dk_at dksX4_characters_0 21 rfl rfl)
theorem dX4_characters_22 : decode cX4_characters 22 = .ok (.iinc 2 1, 3) := dk_132 2 1 (dk_at dksX4_characters_1 0 rfl rfl)
theorem dX4_characters_25 : decode cX4_characters 25 = .ok (.goto (-21), 3) := dk_167 255 235 (dk_at dksX4_characters_1 3 rfl rfl)
theorem dX4_characters_28 : decode cX4_characters 28 = .ok (.iload_n 1, 1) := dk_27 (dk_at dksX4_characters_1 6 rfl rfl)
theorem dX4_characters_29 : decode cX4_characters 29 = .ok (.ireturn, 1) := dk_172 (dk_at dksX4_characters_1 7 rfl rfl)
abbrev cX4_costOfAll : ByteArray := prog_17_method_60_code
def yX4_costOfAll : MethodName := ⟨RX4, "costOfAll", "()I"⟩
def dkwX4_costOfAll_3 : List UInt8 := [60, 132, 3, 1, 167, 255, 215, 132, 2, 1, 167, 255, 185, 27, 172]
abbrev dktX4_costOfAll_3 : List UInt8 := dkwX4_costOfAll_3 ++ []
def dkwX4_costOfAll_2 : List UInt8 := [182, 0, 97, 2, 160, 0, 7, 3, 167, 0, 15, 42, 28, 29, 42, 28, 29, 182, 0, 211, 182, 0, 207, 96]
abbrev dktX4_costOfAll_2 : List UInt8 := dkwX4_costOfAll_2 ++ dktX4_costOfAll_3
def dkwX4_costOfAll_1 : List UInt8 := [42, 28, 182, 0, 167, 96, 60, 3, 62, 29, 42, 28, 182, 0, 155, 162, 0, 38, 27, 42, 28, 29]
abbrev dktX4_costOfAll_1 : List UInt8 := dkwX4_costOfAll_1 ++ dktX4_costOfAll_2
def dkwX4_costOfAll_0 : List UInt8 := [42, 180, 0, 9, 3, 46, 60, 3, 61, 28, 16, 12, 162, 0, 71, 42, 28, 182, 0, 91, 153, 0, 57, 27]
abbrev dktX4_costOfAll_0 : List UInt8 := dkwX4_costOfAll_0 ++ dktX4_costOfAll_1
theorem dksX4_costOfAll_0 : cX4_costOfAll.data.toList.drop 0 = dktX4_costOfAll_0 := by decide +kernel
theorem dksX4_costOfAll_1 : cX4_costOfAll.data.toList.drop 24 = dktX4_costOfAll_1 := dk_seg dksX4_costOfAll_0 24 rfl rfl
theorem dksX4_costOfAll_2 : cX4_costOfAll.data.toList.drop 46 = dktX4_costOfAll_2 := dk_seg dksX4_costOfAll_1 22 rfl rfl
theorem dksX4_costOfAll_3 : cX4_costOfAll.data.toList.drop 70 = dktX4_costOfAll_3 := dk_seg dksX4_costOfAll_2 24 rfl rfl
theorem dX4_costOfAll_0 : decode cX4_costOfAll 0 = .ok (.aload_n 0, 1) := dk_42 (dk_at dksX4_costOfAll_0 0 rfl rfl)
theorem dX4_costOfAll_1 : decode cX4_costOfAll 1 = .ok (.getfield 9, 3) := dk_180 0 9 (dk_at dksX4_costOfAll_0 1 rfl rfl)
theorem dX4_costOfAll_4 : decode cX4_costOfAll 4 = .ok (.iconst 0, 1) := dk_3 (dk_at dksX4_costOfAll_0 4 rfl rfl)
theorem dX4_costOfAll_5 : decode cX4_costOfAll 5 = .ok (.iaload, 1) := dk_46 (dk_at dksX4_costOfAll_0 5 rfl rfl)
theorem dX4_costOfAll_6 : decode cX4_costOfAll 6 = .ok (.istore_n 1, 1) := dk_60 (dk_at dksX4_costOfAll_0 6 rfl rfl)
theorem dX4_costOfAll_7 : decode cX4_costOfAll 7 = .ok (.iconst 0, 1) := dk_3 (dk_at dksX4_costOfAll_0 7 rfl rfl)
theorem dX4_costOfAll_8 : decode cX4_costOfAll 8 = .ok (.istore_n 2, 1) := dk_61 (dk_at dksX4_costOfAll_0 8 rfl rfl)
theorem dX4_costOfAll_9 : decode cX4_costOfAll 9 = .ok (.iload_n 2, 1) := dk_28 (dk_at dksX4_costOfAll_0 9 rfl rfl)
theorem dX4_costOfAll_10 : decode cX4_costOfAll 10 = .ok (.bipush 12, 2) := dk_16 12 (dk_at dksX4_costOfAll_0 10 rfl rfl)
theorem dX4_costOfAll_12 : decode cX4_costOfAll 12 = .ok (.if_icmp .ge 71, 3) := dk_162 0 71 (dk_at dksX4_costOfAll_0 12 rfl rfl)
theorem dX4_costOfAll_15 : decode cX4_costOfAll 15 = .ok (.aload_n 0, 1) := dk_42 (dk_at dksX4_costOfAll_0 15 rfl rfl)
theorem dX4_costOfAll_16 : decode cX4_costOfAll 16 = .ok (.iload_n 2, 1) := dk_28 (dk_at dksX4_costOfAll_0 16 rfl rfl)
theorem dX4_costOfAll_17 : decode cX4_costOfAll 17 = .ok (.invokevirtual 91, 3) := dk_182 0 91 (dk_at dksX4_costOfAll_0 17 rfl rfl)
theorem dX4_costOfAll_20 : decode cX4_costOfAll 20 = .ok (.ifCond .eq 57, 3) := dk_153 0 57 (dk_at dksX4_costOfAll_0 20 rfl rfl)
theorem dX4_costOfAll_23 : decode cX4_costOfAll 23 = .ok (.iload_n 1, 1) := dk_27 (dk_at dksX4_costOfAll_0 23 rfl rfl)
theorem dX4_costOfAll_24 : decode cX4_costOfAll 24 = .ok (.aload_n 0, 1) := dk_42 (dk_at dksX4_costOfAll_1 0 rfl rfl)
theorem dX4_costOfAll_25 : decode cX4_costOfAll 25 = .ok (.iload_n 2, 1) := dk_28 (dk_at dksX4_costOfAll_1 1 rfl rfl)
theorem dX4_costOfAll_26 : decode cX4_costOfAll 26 = .ok (.invokevirtual 167, 3) := dk_182 0 167 (dk_at dksX4_costOfAll_1 2 rfl rfl)
theorem dX4_costOfAll_29 : decode cX4_costOfAll 29 = .ok (.iadd, 1) := dk_96 (dk_at dksX4_costOfAll_1 5 rfl rfl)
theorem dX4_costOfAll_30 : decode cX4_costOfAll 30 = .ok (.istore_n 1, 1) := dk_60 (dk_at dksX4_costOfAll_1 6 rfl rfl)
theorem dX4_costOfAll_31 : decode cX4_costOfAll 31 = .ok (.iconst 0, 1) := dk_3 (dk_at dksX4_costOfAll_1 7 rfl rfl)
theorem dX4_costOfAll_32 : decode cX4_costOfAll 32 = .ok (.istore_n 3, 1) := dk_62 (dk_at dksX4_costOfAll_1 8 rfl rfl)
theorem dX4_costOfAll_33 : decode cX4_costOfAll 33 = .ok (.iload_n 3, 1) := dk_29 (dk_at dksX4_costOfAll_1 9 rfl rfl)
theorem dX4_costOfAll_34 : decode cX4_costOfAll 34 = .ok (.aload_n 0, 1) := dk_42 (dk_at dksX4_costOfAll_1 10 rfl rfl)
theorem dX4_costOfAll_35 : decode cX4_costOfAll 35 = .ok (.iload_n 2, 1) := dk_28 (dk_at dksX4_costOfAll_1 11 rfl rfl)
theorem dX4_costOfAll_36 : decode cX4_costOfAll 36 = .ok (.invokevirtual 155, 3) := dk_182 0 155 (dk_at dksX4_costOfAll_1 12 rfl rfl)
theorem dX4_costOfAll_39 : decode cX4_costOfAll 39 = .ok (.if_icmp .ge 38, 3) := dk_162 0 38 (dk_at dksX4_costOfAll_1 15 rfl rfl)
theorem dX4_costOfAll_42 : decode cX4_costOfAll 42 = .ok (.iload_n 1, 1) := dk_27 (dk_at dksX4_costOfAll_1 18 rfl rfl)
theorem dX4_costOfAll_43 : decode cX4_costOfAll 43 = .ok (.aload_n 0, 1) := dk_42 (dk_at dksX4_costOfAll_1 19 rfl rfl)
theorem dX4_costOfAll_44 : decode cX4_costOfAll 44 = .ok (.iload_n 2, 1) := dk_28 (dk_at dksX4_costOfAll_1 20 rfl rfl)
theorem dX4_costOfAll_45 : decode cX4_costOfAll 45 = .ok (.iload_n 3, 1) := dk_29 (dk_at dksX4_costOfAll_1 21 rfl rfl)
theorem dX4_costOfAll_46 : decode cX4_costOfAll 46 = .ok (.invokevirtual 97, 3) := dk_182 0 97 (dk_at dksX4_costOfAll_2 0 rfl rfl)
theorem dX4_costOfAll_49 : decode cX4_costOfAll 49 = .ok (.iconst (-1), 1) := dk_2 (dk_at dksX4_costOfAll_2 3 rfl rfl)
theorem dX4_costOfAll_50 : decode cX4_costOfAll 50 = .ok (.if_icmp .ne 7, 3) := dk_160 0 7 (dk_at dksX4_costOfAll_2 4 rfl rfl)
theorem dX4_costOfAll_53 : decode cX4_costOfAll 53 = .ok (.iconst 0, 1) := dk_3 (dk_at dksX4_costOfAll_2 7 rfl rfl)
theorem dX4_costOfAll_54 : decode cX4_costOfAll 54 = .ok (.goto 15, 3) := dk_167 0 15 (dk_at dksX4_costOfAll_2 8 rfl rfl)
theorem dX4_costOfAll_57 : decode cX4_costOfAll 57 = .ok (.aload_n 0, 1) := dk_42 (dk_at dksX4_costOfAll_2 11 rfl rfl)
theorem dX4_costOfAll_58 : decode cX4_costOfAll 58 = .ok (.iload_n 2, 1) := dk_28 (dk_at dksX4_costOfAll_2 12 rfl rfl)
theorem dX4_costOfAll_59 : decode cX4_costOfAll 59 = .ok (.iload_n 3, 1) := dk_29 (dk_at dksX4_costOfAll_2 13 rfl rfl)
theorem dX4_costOfAll_60 : decode cX4_costOfAll 60 = .ok (.aload_n 0, 1) := dk_42 (dk_at dksX4_costOfAll_2 14 rfl rfl)
theorem dX4_costOfAll_61 : decode cX4_costOfAll 61 = .ok (.iload_n 2, 1) := dk_28 (dk_at dksX4_costOfAll_2 15 rfl rfl)
theorem dX4_costOfAll_62 : decode cX4_costOfAll 62 = .ok (.iload_n 3, 1) := dk_29 (dk_at dksX4_costOfAll_2 16 rfl rfl)
theorem dX4_costOfAll_63 : decode cX4_costOfAll 63 = .ok (.invokevirtual 211, 3) := dk_182 0 211 (dk_at dksX4_costOfAll_2 17 rfl rfl)
theorem dX4_costOfAll_66 : decode cX4_costOfAll 66 = .ok (.invokevirtual 207, 3) := dk_182 0 207 (dk_at dksX4_costOfAll_2 20 rfl rfl)
theorem dX4_costOfAll_69 : decode cX4_costOfAll 69 = .ok (.iadd, 1) := dk_96 (dk_at dksX4_costOfAll_2 23 rfl rfl)
theorem dX4_costOfAll_70 : decode cX4_costOfAll 70 = .ok (.istore_n 1, 1) := dk_60 (dk_at dksX4_costOfAll_3 0 rfl rfl)
theorem dX4_costOfAll_71 : decode cX4_costOfAll 71 = .ok (.iinc 3 1, 3) := dk_132 3 1 (dk_at dksX4_costOfAll_3 1 rfl rfl)
theorem dX4_costOfAll_74 : decode cX4_costOfAll 74 = .ok (.goto (-41), 3) := dk_167 255 215 (dk_at dksX4_costOfAll_3 4 rfl rfl)
theorem dX4_costOfAll_77 : decode cX4_costOfAll 77 = .ok (.iinc 2 1, 3) := dk_132 2 1 (dk_at dksX4_costOfAll_3 7 rfl rfl)
theorem dX4_costOfAll_80 : decode cX4_costOfAll 80 = .ok (.goto (-71), 3) := dk_167 255 185 (dk_at dksX4_costOfAll_3 10 rfl rfl)
theorem dX4_costOfAll_83 : decode cX4_costOfAll 83 = .ok (.iload_n 1, 1) := dk_27 (dk_at dksX4_costOfAll_3 13 rfl rfl)
theorem dX4_costOfAll_84 : decode cX4_costOfAll 84 = .ok (.ireturn, 1) := dk_172 (dk_at dksX4_costOfAll_3 14 rfl rfl)
abbrev cX4_wayOf : ByteArray := prog_17_method_59_code
def yX4_wayOf : MethodName := ⟨RX4, "wayOf", "(II)I"⟩
def dkwX4_wayOf_2 : List UInt8 := [132, 4, 1, 167, 255, 213, 29, 172]
abbrev dktX4_wayOf_2 : List UInt8 := dkwX4_wayOf_2 ++ []
def dkwX4_wayOf_1 : List UInt8 := [155, 0, 20, 21, 5, 42, 27, 28, 29, 182, 0, 207, 162, 0, 8, 21, 4, 167, 0, 4, 29, 62]
abbrev dktX4_wayOf_1 : List UInt8 := dkwX4_wayOf_1 ++ dktX4_wayOf_2
def dkwX4_wayOf_0 : List UInt8 := [3, 62, 4, 54, 4, 21, 4, 7, 162, 0, 43, 42, 27, 28, 21, 4, 182, 0, 207, 54, 5, 21, 5]
abbrev dktX4_wayOf_0 : List UInt8 := dkwX4_wayOf_0 ++ dktX4_wayOf_1
theorem dksX4_wayOf_0 : cX4_wayOf.data.toList.drop 0 = dktX4_wayOf_0 := by decide +kernel
theorem dksX4_wayOf_1 : cX4_wayOf.data.toList.drop 23 = dktX4_wayOf_1 := dk_seg dksX4_wayOf_0 23 rfl rfl
theorem dksX4_wayOf_2 : cX4_wayOf.data.toList.drop 45 = dktX4_wayOf_2 := dk_seg dksX4_wayOf_1 22 rfl rfl
theorem dX4_wayOf_0 : decode cX4_wayOf 0 = .ok (.iconst 0, 1) := dk_3 (dk_at dksX4_wayOf_0 0 rfl rfl)
theorem dX4_wayOf_1 : decode cX4_wayOf 1 = .ok (.istore_n 3, 1) := dk_62 (dk_at dksX4_wayOf_0 1 rfl rfl)
theorem dX4_wayOf_2 : decode cX4_wayOf 2 = .ok (.iconst 1, 1) := dk_4 (dk_at dksX4_wayOf_0 2 rfl rfl)
theorem dX4_wayOf_3 : decode cX4_wayOf 3 = .ok (.istore 4, 2) := dk_54 4 (dk_at dksX4_wayOf_0 3 rfl rfl)
theorem dX4_wayOf_5 : decode cX4_wayOf 5 = .ok (.iload 4, 2) := dk_21 4 (dk_at dksX4_wayOf_0 5 rfl rfl)
theorem dX4_wayOf_7 : decode cX4_wayOf 7 = .ok (.iconst 4, 1) := dk_7 (dk_at dksX4_wayOf_0 7 rfl rfl)
theorem dX4_wayOf_8 : decode cX4_wayOf 8 = .ok (.if_icmp .ge 43, 3) := dk_162 0 43 (dk_at dksX4_wayOf_0 8 rfl rfl)
theorem dX4_wayOf_11 : decode cX4_wayOf 11 = .ok (.aload_n 0, 1) := dk_42 (dk_at dksX4_wayOf_0 11 rfl rfl)
theorem dX4_wayOf_12 : decode cX4_wayOf 12 = .ok (.iload_n 1, 1) := dk_27 (dk_at dksX4_wayOf_0 12 rfl rfl)
theorem dX4_wayOf_13 : decode cX4_wayOf 13 = .ok (.iload_n 2, 1) := dk_28 (dk_at dksX4_wayOf_0 13 rfl rfl)
theorem dX4_wayOf_14 : decode cX4_wayOf 14 = .ok (.iload 4, 2) := dk_21 4 (dk_at dksX4_wayOf_0 14 rfl rfl)
theorem dX4_wayOf_16 : decode cX4_wayOf 16 = .ok (.invokevirtual 207, 3) := dk_182 0 207 (dk_at dksX4_wayOf_0 16 rfl rfl)
theorem dX4_wayOf_19 : decode cX4_wayOf 19 = .ok (.istore 5, 2) := dk_54 5 (dk_at dksX4_wayOf_0 19 rfl rfl)
theorem dX4_wayOf_21 : decode cX4_wayOf 21 = .ok (.iload 5, 2) := dk_21 5 (dk_at dksX4_wayOf_0 21 rfl rfl)
theorem dX4_wayOf_23 : decode cX4_wayOf 23 = .ok (.ifCond .lt 20, 3) := dk_155 0 20 (dk_at dksX4_wayOf_1 0 rfl rfl)
theorem dX4_wayOf_26 : decode cX4_wayOf 26 = .ok (.iload 5, 2) := dk_21 5 (dk_at dksX4_wayOf_1 3 rfl rfl)
theorem dX4_wayOf_28 : decode cX4_wayOf 28 = .ok (.aload_n 0, 1) := dk_42 (dk_at dksX4_wayOf_1 5 rfl rfl)
theorem dX4_wayOf_29 : decode cX4_wayOf 29 = .ok (.iload_n 1, 1) := dk_27 (dk_at dksX4_wayOf_1 6 rfl rfl)
theorem dX4_wayOf_30 : decode cX4_wayOf 30 = .ok (.iload_n 2, 1) := dk_28 (dk_at dksX4_wayOf_1 7 rfl rfl)
theorem dX4_wayOf_31 : decode cX4_wayOf 31 = .ok (.iload_n 3, 1) := dk_29 (dk_at dksX4_wayOf_1 8 rfl rfl)
theorem dX4_wayOf_32 : decode cX4_wayOf 32 = .ok (.invokevirtual 207, 3) := dk_182 0 207 (dk_at dksX4_wayOf_1 9 rfl rfl)
theorem dX4_wayOf_35 : decode cX4_wayOf 35 = .ok (.if_icmp .ge 8, 3) := dk_162 0 8 (dk_at dksX4_wayOf_1 12 rfl rfl)
theorem dX4_wayOf_38 : decode cX4_wayOf 38 = .ok (.iload 4, 2) := dk_21 4 (dk_at dksX4_wayOf_1 15 rfl rfl)
theorem dX4_wayOf_40 : decode cX4_wayOf 40 = .ok (.goto 4, 3) := dk_167 0 4 (dk_at dksX4_wayOf_1 17 rfl rfl)
theorem dX4_wayOf_43 : decode cX4_wayOf 43 = .ok (.iload_n 3, 1) := dk_29 (dk_at dksX4_wayOf_1 20 rfl rfl)
theorem dX4_wayOf_44 : decode cX4_wayOf 44 = .ok (.istore_n 3, 1) := dk_62 (dk_at dksX4_wayOf_1 21 rfl rfl)
theorem dX4_wayOf_45 : decode cX4_wayOf 45 = .ok (.iinc 4 1, 3) := dk_132 4 1 (dk_at dksX4_wayOf_2 0 rfl rfl)
theorem dX4_wayOf_48 : decode cX4_wayOf 48 = .ok (.goto (-43), 3) := dk_167 255 213 (dk_at dksX4_wayOf_2 3 rfl rfl)
theorem dX4_wayOf_51 : decode cX4_wayOf 51 = .ok (.iload_n 3, 1) := dk_29 (dk_at dksX4_wayOf_2 6 rfl rfl)
theorem dX4_wayOf_52 : decode cX4_wayOf 52 = .ok (.ireturn, 1) := dk_172 (dk_at dksX4_wayOf_2 7 rfl rfl)
abbrev cX4_costOf : ByteArray := prog_17_method_58_code
def yX4_costOf : MethodName := ⟨RX4, "costOf", "(III)I"⟩
def dkwX4_costOf_2 : List UInt8 := [182, 0, 204, 172]
abbrev dktX4_costOf_2 : List UInt8 := dkwX4_costOf_2 ++ []
def dkwX4_costOf_1 : List UInt8 := [28, 4, 182, 0, 197, 167, 0, 22, 29, 5, 160, 0, 12, 42, 28, 4, 182, 0, 201, 167, 0, 8, 42, 28]
abbrev dktX4_costOf_1 : List UInt8 := dkwX4_costOf_1 ++ dktX4_costOf_2
def dkwX4_costOf_0 : List UInt8 := [42, 27, 182, 0, 194, 29, 154, 0, 12, 42, 28, 3, 182, 0, 197, 167, 0, 36, 29, 4, 160, 0, 12, 42]
abbrev dktX4_costOf_0 : List UInt8 := dkwX4_costOf_0 ++ dktX4_costOf_1
theorem dksX4_costOf_0 : cX4_costOf.data.toList.drop 0 = dktX4_costOf_0 := by decide +kernel
theorem dksX4_costOf_1 : cX4_costOf.data.toList.drop 24 = dktX4_costOf_1 := dk_seg dksX4_costOf_0 24 rfl rfl
theorem dksX4_costOf_2 : cX4_costOf.data.toList.drop 48 = dktX4_costOf_2 := dk_seg dksX4_costOf_1 24 rfl rfl
theorem dX4_costOf_0 : decode cX4_costOf 0 = .ok (.aload_n 0, 1) := dk_42 (dk_at dksX4_costOf_0 0 rfl rfl)
theorem dX4_costOf_1 : decode cX4_costOf 1 = .ok (.iload_n 1, 1) := dk_27 (dk_at dksX4_costOf_0 1 rfl rfl)
theorem dX4_costOf_2 : decode cX4_costOf 2 = .ok (.invokevirtual 194, 3) := dk_182 0 194 (dk_at dksX4_costOf_0 2 rfl rfl)
theorem dX4_costOf_5 : decode cX4_costOf 5 = .ok (.iload_n 3, 1) := dk_29 (dk_at dksX4_costOf_0 5 rfl rfl)
theorem dX4_costOf_6 : decode cX4_costOf 6 = .ok (.ifCond .ne 12, 3) := dk_154 0 12 (dk_at dksX4_costOf_0 6 rfl rfl)
theorem dX4_costOf_9 : decode cX4_costOf 9 = .ok (.aload_n 0, 1) := dk_42 (dk_at dksX4_costOf_0 9 rfl rfl)
theorem dX4_costOf_10 : decode cX4_costOf 10 = .ok (.iload_n 2, 1) := dk_28 (dk_at dksX4_costOf_0 10 rfl rfl)
theorem dX4_costOf_11 : decode cX4_costOf 11 = .ok (.iconst 0, 1) := dk_3 (dk_at dksX4_costOf_0 11 rfl rfl)
theorem dX4_costOf_12 : decode cX4_costOf 12 = .ok (.invokevirtual 197, 3) := dk_182 0 197 (dk_at dksX4_costOf_0 12 rfl rfl)
theorem dX4_costOf_15 : decode cX4_costOf 15 = .ok (.goto 36, 3) := dk_167 0 36 (dk_at dksX4_costOf_0 15 rfl rfl)
theorem dX4_costOf_18 : decode cX4_costOf 18 = .ok (.iload_n 3, 1) := dk_29 (dk_at dksX4_costOf_0 18 rfl rfl)
theorem dX4_costOf_19 : decode cX4_costOf 19 = .ok (.iconst 1, 1) := dk_4 (dk_at dksX4_costOf_0 19 rfl rfl)
theorem dX4_costOf_20 : decode cX4_costOf 20 = .ok (.if_icmp .ne 12, 3) := dk_160 0 12 (dk_at dksX4_costOf_0 20 rfl rfl)
theorem dX4_costOf_23 : decode cX4_costOf 23 = .ok (.aload_n 0, 1) := dk_42 (dk_at dksX4_costOf_0 23 rfl rfl)
theorem dX4_costOf_24 : decode cX4_costOf 24 = .ok (.iload_n 2, 1) := dk_28 (dk_at dksX4_costOf_1 0 rfl rfl)
theorem dX4_costOf_25 : decode cX4_costOf 25 = .ok (.iconst 1, 1) := dk_4 (dk_at dksX4_costOf_1 1 rfl rfl)
theorem dX4_costOf_26 : decode cX4_costOf 26 = .ok (.invokevirtual 197, 3) := dk_182 0 197 (dk_at dksX4_costOf_1 2 rfl rfl)
theorem dX4_costOf_29 : decode cX4_costOf 29 = .ok (.goto 22, 3) := dk_167 0 22 (dk_at dksX4_costOf_1 5 rfl rfl)
theorem dX4_costOf_32 : decode cX4_costOf 32 = .ok (.iload_n 3, 1) := dk_29 (dk_at dksX4_costOf_1 8 rfl rfl)
theorem dX4_costOf_33 : decode cX4_costOf 33 = .ok (.iconst 2, 1) := dk_5 (dk_at dksX4_costOf_1 9 rfl rfl)
theorem dX4_costOf_34 : decode cX4_costOf 34 = .ok (.if_icmp .ne 12, 3) := dk_160 0 12 (dk_at dksX4_costOf_1 10 rfl rfl)
theorem dX4_costOf_37 : decode cX4_costOf 37 = .ok (.aload_n 0, 1) := dk_42 (dk_at dksX4_costOf_1 13 rfl rfl)
theorem dX4_costOf_38 : decode cX4_costOf 38 = .ok (.iload_n 2, 1) := dk_28 (dk_at dksX4_costOf_1 14 rfl rfl)
theorem dX4_costOf_39 : decode cX4_costOf 39 = .ok (.iconst 1, 1) := dk_4 (dk_at dksX4_costOf_1 15 rfl rfl)
theorem dX4_costOf_40 : decode cX4_costOf 40 = .ok (.invokevirtual 201, 3) := dk_182 0 201 (dk_at dksX4_costOf_1 16 rfl rfl)
theorem dX4_costOf_43 : decode cX4_costOf 43 = .ok (.goto 8, 3) := dk_167 0 8 (dk_at dksX4_costOf_1 19 rfl rfl)
theorem dX4_costOf_46 : decode cX4_costOf 46 = .ok (.aload_n 0, 1) := dk_42 (dk_at dksX4_costOf_1 22 rfl rfl)
theorem dX4_costOf_47 : decode cX4_costOf 47 = .ok (.iload_n 2, 1) := dk_28 (dk_at dksX4_costOf_1 23 rfl rfl)
theorem dX4_costOf_48 : decode cX4_costOf 48 = .ok (.invokevirtual 204, 3) := dk_182 0 204 (dk_at dksX4_costOf_2 0 rfl rfl)
theorem dX4_costOf_51 : decode cX4_costOf 51 = .ok (.ireturn, 1) := dk_172 (dk_at dksX4_costOf_2 3 rfl rfl)
abbrev cX4_layRows : ByteArray := prog_17_method_52_code
def yX4_layRows : MethodName := ⟨RX4, "layRows", "(I)V"⟩
def dkwX4_layRows_2 : List UInt8 := [181, 0, 182, 132, 2, 1, 167, 255, 210, 177]
abbrev dktX4_layRows_2 : List UInt8 := dkwX4_layRows_2 ++ []
def dkwX4_layRows_1 : List UInt8 := [96, 46, 27, 160, 0, 23, 42, 180, 0, 43, 42, 180, 0, 182, 28, 79, 42, 89, 180, 0, 182, 4, 96]
abbrev dktX4_layRows_1 : List UInt8 := dkwX4_layRows_1 ++ dktX4_layRows_2
def dkwX4_layRows_0 : List UInt8 := [42, 3, 181, 0, 182, 3, 61, 28, 42, 180, 0, 9, 3, 46, 162, 0, 42, 42, 180, 0, 9, 16, 43, 28]
abbrev dktX4_layRows_0 : List UInt8 := dkwX4_layRows_0 ++ dktX4_layRows_1
theorem dksX4_layRows_0 : cX4_layRows.data.toList.drop 0 = dktX4_layRows_0 := by decide +kernel
theorem dksX4_layRows_1 : cX4_layRows.data.toList.drop 24 = dktX4_layRows_1 := dk_seg dksX4_layRows_0 24 rfl rfl
theorem dksX4_layRows_2 : cX4_layRows.data.toList.drop 47 = dktX4_layRows_2 := dk_seg dksX4_layRows_1 23 rfl rfl
theorem dX4_layRows_0 : decode cX4_layRows 0 = .ok (.aload_n 0, 1) := dk_42 (dk_at dksX4_layRows_0 0 rfl rfl)
theorem dX4_layRows_1 : decode cX4_layRows 1 = .ok (.iconst 0, 1) := dk_3 (dk_at dksX4_layRows_0 1 rfl rfl)
theorem dX4_layRows_2 : decode cX4_layRows 2 = .ok (.putfield 182, 3) := dk_181 0 182 (dk_at dksX4_layRows_0 2 rfl rfl)
theorem dX4_layRows_5 : decode cX4_layRows 5 = .ok (.iconst 0, 1) := dk_3 (dk_at dksX4_layRows_0 5 rfl rfl)
theorem dX4_layRows_6 : decode cX4_layRows 6 = .ok (.istore_n 2, 1) := dk_61 (dk_at dksX4_layRows_0 6 rfl rfl)
theorem dX4_layRows_7 : decode cX4_layRows 7 = .ok (.iload_n 2, 1) := dk_28 (dk_at dksX4_layRows_0 7 rfl rfl)
theorem dX4_layRows_8 : decode cX4_layRows 8 = .ok (.aload_n 0, 1) := dk_42 (dk_at dksX4_layRows_0 8 rfl rfl)
theorem dX4_layRows_9 : decode cX4_layRows 9 = .ok (.getfield 9, 3) := dk_180 0 9 (dk_at dksX4_layRows_0 9 rfl rfl)
theorem dX4_layRows_12 : decode cX4_layRows 12 = .ok (.iconst 0, 1) := dk_3 (dk_at dksX4_layRows_0 12 rfl rfl)
theorem dX4_layRows_13 : decode cX4_layRows 13 = .ok (.iaload, 1) := dk_46 (dk_at dksX4_layRows_0 13 rfl rfl)
theorem dX4_layRows_14 : decode cX4_layRows 14 = .ok (.if_icmp .ge 42, 3) := dk_162 0 42 (dk_at dksX4_layRows_0 14 rfl rfl)
theorem dX4_layRows_17 : decode cX4_layRows 17 = .ok (.aload_n 0, 1) := dk_42 (dk_at dksX4_layRows_0 17 rfl rfl)
theorem dX4_layRows_18 : decode cX4_layRows 18 = .ok (.getfield 9, 3) := dk_180 0 9 (dk_at dksX4_layRows_0 18 rfl rfl)
theorem dX4_layRows_21 : decode cX4_layRows 21 = .ok (.bipush 43, 2) := dk_16 43 (dk_at dksX4_layRows_0 21 rfl rfl)
theorem dX4_layRows_23 : decode cX4_layRows 23 = .ok (.iload_n 2, 1) := dk_28 (dk_at dksX4_layRows_0 23 rfl rfl)
theorem dX4_layRows_24 : decode cX4_layRows 24 = .ok (.iadd, 1) := dk_96 (dk_at dksX4_layRows_1 0 rfl rfl)
theorem dX4_layRows_25 : decode cX4_layRows 25 = .ok (.iaload, 1) := dk_46 (dk_at dksX4_layRows_1 1 rfl rfl)
theorem dX4_layRows_26 : decode cX4_layRows 26 = .ok (.iload_n 1, 1) := dk_27 (dk_at dksX4_layRows_1 2 rfl rfl)
theorem dX4_layRows_27 : decode cX4_layRows 27 = .ok (.if_icmp .ne 23, 3) := dk_160 0 23 (dk_at dksX4_layRows_1 3 rfl rfl)
theorem dX4_layRows_30 : decode cX4_layRows 30 = .ok (.aload_n 0, 1) := dk_42 (dk_at dksX4_layRows_1 6 rfl rfl)
theorem dX4_layRows_31 : decode cX4_layRows 31 = .ok (.getfield 43, 3) := dk_180 0 43 (dk_at dksX4_layRows_1 7 rfl rfl)
theorem dX4_layRows_34 : decode cX4_layRows 34 = .ok (.aload_n 0, 1) := dk_42 (dk_at dksX4_layRows_1 10 rfl rfl)
theorem dX4_layRows_35 : decode cX4_layRows 35 = .ok (.getfield 182, 3) := dk_180 0 182 (dk_at dksX4_layRows_1 11 rfl rfl)
theorem dX4_layRows_38 : decode cX4_layRows 38 = .ok (.iload_n 2, 1) := dk_28 (dk_at dksX4_layRows_1 14 rfl rfl)
theorem dX4_layRows_39 : decode cX4_layRows 39 = .ok (.iastore, 1) := dk_79 (dk_at dksX4_layRows_1 15 rfl rfl)
theorem dX4_layRows_40 : decode cX4_layRows 40 = .ok (.aload_n 0, 1) := dk_42 (dk_at dksX4_layRows_1 16 rfl rfl)
theorem dX4_layRows_41 : decode cX4_layRows 41 = .ok (.dup, 1) := dk_89 (dk_at dksX4_layRows_1 17 rfl rfl)
theorem dX4_layRows_42 : decode cX4_layRows 42 = .ok (.getfield 182, 3) := dk_180 0 182 (dk_at dksX4_layRows_1 18 rfl rfl)
theorem dX4_layRows_45 : decode cX4_layRows 45 = .ok (.iconst 1, 1) := dk_4 (dk_at dksX4_layRows_1 21 rfl rfl)
theorem dX4_layRows_46 : decode cX4_layRows 46 = .ok (.iadd, 1) := dk_96 (dk_at dksX4_layRows_1 22 rfl rfl)
theorem dX4_layRows_47 : decode cX4_layRows 47 = .ok (.putfield 182, 3) := dk_181 0 182 (dk_at dksX4_layRows_2 0 rfl rfl)
theorem dX4_layRows_50 : decode cX4_layRows 50 = .ok (.iinc 2 1, 3) := dk_132 2 1 (dk_at dksX4_layRows_2 3 rfl rfl)
theorem dX4_layRows_53 : decode cX4_layRows 53 = .ok (.goto (-46), 3) := dk_167 255 210 (dk_at dksX4_layRows_2 6 rfl rfl)
theorem dX4_layRows_56 : decode cX4_layRows 56 = .ok (.return_, 1) := dk_177 (dk_at dksX4_layRows_2 9 rfl rfl)
abbrev cX4_plain : ByteArray := prog_17_method_55_code
def yX4_plain : MethodName := ⟨RX4, "plain", "(IZ)I"⟩
def dkwX4_plain_3 : List UInt8 := [29, 172]
abbrev dktX4_plain_3 : List UInt8 := dkwX4_plain_3 ++ []
def dkwX4_plain_2 : List UInt8 := [180, 0, 43, 21, 4, 46, 27, 182, 0, 81, 4, 96, 167, 0, 4, 3, 96, 62, 132, 4, 1, 167, 255, 207]
abbrev dktX4_plain_2 : List UInt8 := dkwX4_plain_2 ++ dktX4_plain_3
def dkwX4_plain_1 : List UInt8 := [162, 0, 46, 29, 28, 153, 0, 15, 42, 27, 21, 4, 182, 0, 185, 21, 4, 160, 0, 20, 42, 42]
abbrev dktX4_plain_1 : List UInt8 := dkwX4_plain_1 ++ dktX4_plain_2
def dkwX4_plain_0 : List UInt8 := [28, 153, 0, 10, 42, 180, 0, 182, 167, 0, 4, 3, 62, 3, 54, 4, 21, 4, 42, 180, 0, 182]
abbrev dktX4_plain_0 : List UInt8 := dkwX4_plain_0 ++ dktX4_plain_1
theorem dksX4_plain_0 : cX4_plain.data.toList.drop 0 = dktX4_plain_0 := by decide +kernel
theorem dksX4_plain_1 : cX4_plain.data.toList.drop 22 = dktX4_plain_1 := dk_seg dksX4_plain_0 22 rfl rfl
theorem dksX4_plain_2 : cX4_plain.data.toList.drop 44 = dktX4_plain_2 := dk_seg dksX4_plain_1 22 rfl rfl
theorem dksX4_plain_3 : cX4_plain.data.toList.drop 68 = dktX4_plain_3 := dk_seg dksX4_plain_2 24 rfl rfl
theorem dX4_plain_0 : decode cX4_plain 0 = .ok (.iload_n 2, 1) := dk_28 (dk_at dksX4_plain_0 0 rfl rfl)
theorem dX4_plain_1 : decode cX4_plain 1 = .ok (.ifCond .eq 10, 3) := dk_153 0 10 (dk_at dksX4_plain_0 1 rfl rfl)
theorem dX4_plain_4 : decode cX4_plain 4 = .ok (.aload_n 0, 1) := dk_42 (dk_at dksX4_plain_0 4 rfl rfl)
theorem dX4_plain_5 : decode cX4_plain 5 = .ok (.getfield 182, 3) := dk_180 0 182 (dk_at dksX4_plain_0 5 rfl rfl)
theorem dX4_plain_8 : decode cX4_plain 8 = .ok (.goto 4, 3) := dk_167 0 4 (dk_at dksX4_plain_0 8 rfl rfl)
theorem dX4_plain_11 : decode cX4_plain 11 = .ok (.iconst 0, 1) := dk_3 (dk_at dksX4_plain_0 11 rfl rfl)
theorem dX4_plain_12 : decode cX4_plain 12 = .ok (.istore_n 3, 1) := dk_62 (dk_at dksX4_plain_0 12 rfl rfl)
theorem dX4_plain_13 : decode cX4_plain 13 = .ok (.iconst 0, 1) := dk_3 (dk_at dksX4_plain_0 13 rfl rfl)
theorem dX4_plain_14 : decode cX4_plain 14 = .ok (.istore 4, 2) := dk_54 4 (dk_at dksX4_plain_0 14 rfl rfl)
theorem dX4_plain_16 : decode cX4_plain 16 = .ok (.iload 4, 2) := dk_21 4 (dk_at dksX4_plain_0 16 rfl rfl)
theorem dX4_plain_18 : decode cX4_plain 18 = .ok (.aload_n 0, 1) := dk_42 (dk_at dksX4_plain_0 18 rfl rfl)
theorem dX4_plain_19 : decode cX4_plain 19 = .ok (.getfield 182, 3) := dk_180 0 182 (dk_at dksX4_plain_0 19 rfl rfl)
theorem dX4_plain_22 : decode cX4_plain 22 = .ok (.if_icmp .ge 46, 3) := dk_162 0 46 (dk_at dksX4_plain_1 0 rfl rfl)
theorem dX4_plain_25 : decode cX4_plain 25 = .ok (.iload_n 3, 1) := dk_29 (dk_at dksX4_plain_1 3 rfl rfl)
theorem dX4_plain_26 : decode cX4_plain 26 = .ok (.iload_n 2, 1) := dk_28 (dk_at dksX4_plain_1 4 rfl rfl)
theorem dX4_plain_27 : decode cX4_plain 27 = .ok (.ifCond .eq 15, 3) := dk_153 0 15 (dk_at dksX4_plain_1 5 rfl rfl)
theorem dX4_plain_30 : decode cX4_plain 30 = .ok (.aload_n 0, 1) := dk_42 (dk_at dksX4_plain_1 8 rfl rfl)
theorem dX4_plain_31 : decode cX4_plain 31 = .ok (.iload_n 1, 1) := dk_27 (dk_at dksX4_plain_1 9 rfl rfl)
theorem dX4_plain_32 : decode cX4_plain 32 = .ok (.iload 4, 2) := dk_21 4 (dk_at dksX4_plain_1 10 rfl rfl)
theorem dX4_plain_34 : decode cX4_plain 34 = .ok (.invokevirtual 185, 3) := dk_182 0 185 (dk_at dksX4_plain_1 12 rfl rfl)
theorem dX4_plain_37 : decode cX4_plain 37 = .ok (.iload 4, 2) := dk_21 4 (dk_at dksX4_plain_1 15 rfl rfl)
theorem dX4_plain_39 : decode cX4_plain 39 = .ok (.if_icmp .ne 20, 3) := dk_160 0 20 (dk_at dksX4_plain_1 17 rfl rfl)
theorem dX4_plain_42 : decode cX4_plain 42 = .ok (.aload_n 0, 1) := dk_42 (dk_at dksX4_plain_1 20 rfl rfl)
theorem dX4_plain_43 : decode cX4_plain 43 = .ok (.aload_n 0, 1) := dk_42 (dk_at dksX4_plain_1 21 rfl rfl)
theorem dX4_plain_44 : decode cX4_plain 44 = .ok (.getfield 43, 3) := dk_180 0 43 (dk_at dksX4_plain_2 0 rfl rfl)
theorem dX4_plain_47 : decode cX4_plain 47 = .ok (.iload 4, 2) := dk_21 4 (dk_at dksX4_plain_2 3 rfl rfl)
theorem dX4_plain_49 : decode cX4_plain 49 = .ok (.iaload, 1) := dk_46 (dk_at dksX4_plain_2 5 rfl rfl)
theorem dX4_plain_50 : decode cX4_plain 50 = .ok (.iload_n 1, 1) := dk_27 (dk_at dksX4_plain_2 6 rfl rfl)
theorem dX4_plain_51 : decode cX4_plain 51 = .ok (.invokevirtual 81, 3) := dk_182 0 81 (dk_at dksX4_plain_2 7 rfl rfl)
theorem dX4_plain_54 : decode cX4_plain 54 = .ok (.iconst 1, 1) := dk_4 (dk_at dksX4_plain_2 10 rfl rfl)
theorem dX4_plain_55 : decode cX4_plain 55 = .ok (.iadd, 1) := dk_96 (dk_at dksX4_plain_2 11 rfl rfl)
theorem dX4_plain_56 : decode cX4_plain 56 = .ok (.goto 4, 3) := dk_167 0 4 (dk_at dksX4_plain_2 12 rfl rfl)
theorem dX4_plain_59 : decode cX4_plain 59 = .ok (.iconst 0, 1) := dk_3 (dk_at dksX4_plain_2 15 rfl rfl)
theorem dX4_plain_60 : decode cX4_plain 60 = .ok (.iadd, 1) := dk_96 (dk_at dksX4_plain_2 16 rfl rfl)
theorem dX4_plain_61 : decode cX4_plain 61 = .ok (.istore_n 3, 1) := dk_62 (dk_at dksX4_plain_2 17 rfl rfl)
theorem dX4_plain_62 : decode cX4_plain 62 = .ok (.iinc 4 1, 3) := dk_132 4 1 (dk_at dksX4_plain_2 18 rfl rfl)
theorem dX4_plain_65 : decode cX4_plain 65 = .ok (.goto (-49), 3) := dk_167 255 207 (dk_at dksX4_plain_2 21 rfl rfl)
theorem dX4_plain_68 : decode cX4_plain 68 = .ok (.iload_n 3, 1) := dk_29 (dk_at dksX4_plain_3 0 rfl rfl)
theorem dX4_plain_69 : decode cX4_plain 69 = .ok (.ireturn, 1) := dk_172 (dk_at dksX4_plain_3 1 rfl rfl)
abbrev cX4_firstLike : ByteArray := prog_17_method_53_code
def yX4_firstLike : MethodName := ⟨RX4, "firstLike", "(II)I"⟩
def dkwX4_firstLike_1 : List UInt8 := [132, 3, 1, 167, 255, 232, 29, 172]
abbrev dktX4_firstLike_1 : List UInt8 := dkwX4_firstLike_1 ++ []
def dkwX4_firstLike_0 : List UInt8 := [3, 62, 42, 42, 180, 0, 43, 29, 46, 27, 42, 180, 0, 43, 28, 46, 27, 182, 0, 100, 154, 0, 9]
abbrev dktX4_firstLike_0 : List UInt8 := dkwX4_firstLike_0 ++ dktX4_firstLike_1
theorem dksX4_firstLike_0 : cX4_firstLike.data.toList.drop 0 = dktX4_firstLike_0 := by decide +kernel
theorem dksX4_firstLike_1 : cX4_firstLike.data.toList.drop 23 = dktX4_firstLike_1 := dk_seg dksX4_firstLike_0 23 rfl rfl
theorem dX4_firstLike_0 : decode cX4_firstLike 0 = .ok (.iconst 0, 1) := dk_3 (dk_at dksX4_firstLike_0 0 rfl rfl)
theorem dX4_firstLike_1 : decode cX4_firstLike 1 = .ok (.istore_n 3, 1) := dk_62 (dk_at dksX4_firstLike_0 1 rfl rfl)
theorem dX4_firstLike_2 : decode cX4_firstLike 2 = .ok (.aload_n 0, 1) := dk_42 (dk_at dksX4_firstLike_0 2 rfl rfl)
theorem dX4_firstLike_3 : decode cX4_firstLike 3 = .ok (.aload_n 0, 1) := dk_42 (dk_at dksX4_firstLike_0 3 rfl rfl)
theorem dX4_firstLike_4 : decode cX4_firstLike 4 = .ok (.getfield 43, 3) := dk_180 0 43 (dk_at dksX4_firstLike_0 4 rfl rfl)
theorem dX4_firstLike_7 : decode cX4_firstLike 7 = .ok (.iload_n 3, 1) := dk_29 (dk_at dksX4_firstLike_0 7 rfl rfl)
theorem dX4_firstLike_8 : decode cX4_firstLike 8 = .ok (.iaload, 1) := dk_46 (dk_at dksX4_firstLike_0 8 rfl rfl)
theorem dX4_firstLike_9 : decode cX4_firstLike 9 = .ok (.iload_n 1, 1) := dk_27 (dk_at dksX4_firstLike_0 9 rfl rfl)
theorem dX4_firstLike_10 : decode cX4_firstLike 10 = .ok (.aload_n 0, 1) := dk_42 (dk_at dksX4_firstLike_0 10 rfl rfl)
theorem dX4_firstLike_11 : decode cX4_firstLike 11 = .ok (.getfield 43, 3) := dk_180 0 43 (dk_at dksX4_firstLike_0 11 rfl rfl)
theorem dX4_firstLike_14 : decode cX4_firstLike 14 = .ok (.iload_n 2, 1) := dk_28 (dk_at dksX4_firstLike_0 14 rfl rfl)
theorem dX4_firstLike_15 : decode cX4_firstLike 15 = .ok (.iaload, 1) := dk_46 (dk_at dksX4_firstLike_0 15 rfl rfl)
theorem dX4_firstLike_16 : decode cX4_firstLike 16 = .ok (.iload_n 1, 1) := dk_27 (dk_at dksX4_firstLike_0 16 rfl rfl)
theorem dX4_firstLike_17 : decode cX4_firstLike 17 = .ok (.invokevirtual 100, 3) := dk_182 0 100 (dk_at dksX4_firstLike_0 17 rfl rfl)
theorem dX4_firstLike_20 : decode cX4_firstLike 20 = .ok (.ifCond .ne 9, 3) := dk_154 0 9 (dk_at dksX4_firstLike_0 20 rfl rfl)
theorem dX4_firstLike_23 : decode cX4_firstLike 23 = .ok (.iinc 3 1, 3) := dk_132 3 1 (dk_at dksX4_firstLike_1 0 rfl rfl)
theorem dX4_firstLike_26 : decode cX4_firstLike 26 = .ok (.goto (-24), 3) := dk_167 255 232 (dk_at dksX4_firstLike_1 3 rfl rfl)
theorem dX4_firstLike_29 : decode cX4_firstLike 29 = .ok (.iload_n 3, 1) := dk_29 (dk_at dksX4_firstLike_1 6 rfl rfl)
theorem dX4_firstLike_30 : decode cX4_firstLike 30 = .ok (.ireturn, 1) := dk_172 (dk_at dksX4_firstLike_1 7 rfl rfl)
abbrev cX4_runs : ByteArray := prog_17_method_56_code
def yX4_runs : MethodName := ⟨RX4, "runs", "(IZ)I"⟩
def dkwX4_runs_3 : List UInt8 := [182, 0, 81, 5, 96, 167, 0, 8, 4, 167, 0, 4, 3, 96, 62, 132, 4, 1, 167, 255, 173, 29, 172]
abbrev dktX4_runs_3 : List UInt8 := dkwX4_runs_3 ++ []
def dkwX4_runs_2 : List UInt8 := [3, 54, 5, 29, 21, 5, 153, 0, 28, 28, 153, 0, 20, 42, 42, 180, 0, 43, 21, 4, 46, 27]
abbrev dktX4_runs_2 : List UInt8 := dkwX4_runs_2 ++ dktX4_runs_3
def dkwX4_runs_1 : List UInt8 := [21, 4, 4, 100, 46, 27, 42, 180, 0, 43, 21, 4, 46, 27, 182, 0, 100, 154, 0, 7, 4, 167, 0, 4]
abbrev dktX4_runs_1 : List UInt8 := dkwX4_runs_1 ++ dktX4_runs_2
def dkwX4_runs_0 : List UInt8 := [3, 62, 3, 54, 4, 21, 4, 42, 180, 0, 182, 162, 0, 80, 21, 4, 153, 0, 28, 42, 42, 180, 0, 43]
abbrev dktX4_runs_0 : List UInt8 := dkwX4_runs_0 ++ dktX4_runs_1
theorem dksX4_runs_0 : cX4_runs.data.toList.drop 0 = dktX4_runs_0 := by decide +kernel
theorem dksX4_runs_1 : cX4_runs.data.toList.drop 24 = dktX4_runs_1 := dk_seg dksX4_runs_0 24 rfl rfl
theorem dksX4_runs_2 : cX4_runs.data.toList.drop 48 = dktX4_runs_2 := dk_seg dksX4_runs_1 24 rfl rfl
theorem dksX4_runs_3 : cX4_runs.data.toList.drop 70 = dktX4_runs_3 := dk_seg dksX4_runs_2 22 rfl rfl
theorem dX4_runs_0 : decode cX4_runs 0 = .ok (.iconst 0, 1) := dk_3 (dk_at dksX4_runs_0 0 rfl rfl)
theorem dX4_runs_1 : decode cX4_runs 1 = .ok (.istore_n 3, 1) := dk_62 (dk_at dksX4_runs_0 1 rfl rfl)
theorem dX4_runs_2 : decode cX4_runs 2 = .ok (.iconst 0, 1) := dk_3 (dk_at dksX4_runs_0 2 rfl rfl)
theorem dX4_runs_3 : decode cX4_runs 3 = .ok (.istore 4, 2) := dk_54 4 (dk_at dksX4_runs_0 3 rfl rfl)
theorem dX4_runs_5 : decode cX4_runs 5 = .ok (.iload 4, 2) := dk_21 4 (dk_at dksX4_runs_0 5 rfl rfl)
theorem dX4_runs_7 : decode cX4_runs 7 = .ok (.aload_n 0, 1) := dk_42 (dk_at dksX4_runs_0 7 rfl rfl)
theorem dX4_runs_8 : decode cX4_runs 8 = .ok (.getfield 182, 3) := dk_180 0 182 (dk_at dksX4_runs_0 8 rfl rfl)
theorem dX4_runs_11 : decode cX4_runs 11 = .ok (.if_icmp .ge 80, 3) := dk_162 0 80 (dk_at dksX4_runs_0 11 rfl rfl)
theorem dX4_runs_14 : decode cX4_runs 14 = .ok (.iload 4, 2) := dk_21 4 (dk_at dksX4_runs_0 14 rfl rfl)
theorem dX4_runs_16 : decode cX4_runs 16 = .ok (.ifCond .eq 28, 3) := dk_153 0 28 (dk_at dksX4_runs_0 16 rfl rfl)
theorem dX4_runs_19 : decode cX4_runs 19 = .ok (.aload_n 0, 1) := dk_42 (dk_at dksX4_runs_0 19 rfl rfl)
theorem dX4_runs_20 : decode cX4_runs 20 = .ok (.aload_n 0, 1) := dk_42 (dk_at dksX4_runs_0 20 rfl rfl)
theorem dX4_runs_21 : decode cX4_runs 21 = .ok (.getfield 43, 3) := dk_180 0 43 (dk_at dksX4_runs_0 21 rfl rfl)
theorem dX4_runs_24 : decode cX4_runs 24 = .ok (.iload 4, 2) := dk_21 4 (dk_at dksX4_runs_1 0 rfl rfl)
theorem dX4_runs_26 : decode cX4_runs 26 = .ok (.iconst 1, 1) := dk_4 (dk_at dksX4_runs_1 2 rfl rfl)
theorem dX4_runs_27 : decode cX4_runs 27 = .ok (.isub, 1) := dk_100 (dk_at dksX4_runs_1 3 rfl rfl)
theorem dX4_runs_28 : decode cX4_runs 28 = .ok (.iaload, 1) := dk_46 (dk_at dksX4_runs_1 4 rfl rfl)
theorem dX4_runs_29 : decode cX4_runs 29 = .ok (.iload_n 1, 1) := dk_27 (dk_at dksX4_runs_1 5 rfl rfl)
theorem dX4_runs_30 : decode cX4_runs 30 = .ok (.aload_n 0, 1) := dk_42 (dk_at dksX4_runs_1 6 rfl rfl)
theorem dX4_runs_31 : decode cX4_runs 31 = .ok (.getfield 43, 3) := dk_180 0 43 (dk_at dksX4_runs_1 7 rfl rfl)
theorem dX4_runs_34 : decode cX4_runs 34 = .ok (.iload 4, 2) := dk_21 4 (dk_at dksX4_runs_1 10 rfl rfl)
theorem dX4_runs_36 : decode cX4_runs 36 = .ok (.iaload, 1) := dk_46 (dk_at dksX4_runs_1 12 rfl rfl)
theorem dX4_runs_37 : decode cX4_runs 37 = .ok (.iload_n 1, 1) := dk_27 (dk_at dksX4_runs_1 13 rfl rfl)
theorem dX4_runs_38 : decode cX4_runs 38 = .ok (.invokevirtual 100, 3) := dk_182 0 100 (dk_at dksX4_runs_1 14 rfl rfl)
theorem dX4_runs_41 : decode cX4_runs 41 = .ok (.ifCond .ne 7, 3) := dk_154 0 7 (dk_at dksX4_runs_1 17 rfl rfl)
theorem dX4_runs_44 : decode cX4_runs 44 = .ok (.iconst 1, 1) := dk_4 (dk_at dksX4_runs_1 20 rfl rfl)
theorem dX4_runs_45 : decode cX4_runs 45 = .ok (.goto 4, 3) := dk_167 0 4 (dk_at dksX4_runs_1 21 rfl rfl)
theorem dX4_runs_48 : decode cX4_runs 48 = .ok (.iconst 0, 1) := dk_3 (dk_at dksX4_runs_2 0 rfl rfl)
theorem dX4_runs_49 : decode cX4_runs 49 = .ok (.istore 5, 2) := dk_54 5 (dk_at dksX4_runs_2 1 rfl rfl)
theorem dX4_runs_51 : decode cX4_runs 51 = .ok (.iload_n 3, 1) := dk_29 (dk_at dksX4_runs_2 3 rfl rfl)
theorem dX4_runs_52 : decode cX4_runs 52 = .ok (.iload 5, 2) := dk_21 5 (dk_at dksX4_runs_2 4 rfl rfl)
theorem dX4_runs_54 : decode cX4_runs 54 = .ok (.ifCond .eq 28, 3) := dk_153 0 28 (dk_at dksX4_runs_2 6 rfl rfl)
theorem dX4_runs_57 : decode cX4_runs 57 = .ok (.iload_n 2, 1) := dk_28 (dk_at dksX4_runs_2 9 rfl rfl)
theorem dX4_runs_58 : decode cX4_runs 58 = .ok (.ifCond .eq 20, 3) := dk_153 0 20 (dk_at dksX4_runs_2 10 rfl rfl)
theorem dX4_runs_61 : decode cX4_runs 61 = .ok (.aload_n 0, 1) := dk_42 (dk_at dksX4_runs_2 13 rfl rfl)
theorem dX4_runs_62 : decode cX4_runs 62 = .ok (.aload_n 0, 1) := dk_42 (dk_at dksX4_runs_2 14 rfl rfl)
theorem dX4_runs_63 : decode cX4_runs 63 = .ok (.getfield 43, 3) := dk_180 0 43 (dk_at dksX4_runs_2 15 rfl rfl)
theorem dX4_runs_66 : decode cX4_runs 66 = .ok (.iload 4, 2) := dk_21 4 (dk_at dksX4_runs_2 18 rfl rfl)
theorem dX4_runs_68 : decode cX4_runs 68 = .ok (.iaload, 1) := dk_46 (dk_at dksX4_runs_2 20 rfl rfl)
theorem dX4_runs_69 : decode cX4_runs 69 = .ok (.iload_n 1, 1) := dk_27 (dk_at dksX4_runs_2 21 rfl rfl)
theorem dX4_runs_70 : decode cX4_runs 70 = .ok (.invokevirtual 81, 3) := dk_182 0 81 (dk_at dksX4_runs_3 0 rfl rfl)
theorem dX4_runs_73 : decode cX4_runs 73 = .ok (.iconst 2, 1) := dk_5 (dk_at dksX4_runs_3 3 rfl rfl)
theorem dX4_runs_74 : decode cX4_runs 74 = .ok (.iadd, 1) := dk_96 (dk_at dksX4_runs_3 4 rfl rfl)
theorem dX4_runs_75 : decode cX4_runs 75 = .ok (.goto 8, 3) := dk_167 0 8 (dk_at dksX4_runs_3 5 rfl rfl)
theorem dX4_runs_78 : decode cX4_runs 78 = .ok (.iconst 1, 1) := dk_4 (dk_at dksX4_runs_3 8 rfl rfl)
theorem dX4_runs_79 : decode cX4_runs 79 = .ok (.goto 4, 3) := dk_167 0 4 (dk_at dksX4_runs_3 9 rfl rfl)
theorem dX4_runs_82 : decode cX4_runs 82 = .ok (.iconst 0, 1) := dk_3 (dk_at dksX4_runs_3 12 rfl rfl)
theorem dX4_runs_83 : decode cX4_runs 83 = .ok (.iadd, 1) := dk_96 (dk_at dksX4_runs_3 13 rfl rfl)
theorem dX4_runs_84 : decode cX4_runs 84 = .ok (.istore_n 3, 1) := dk_62 (dk_at dksX4_runs_3 14 rfl rfl)
theorem dX4_runs_85 : decode cX4_runs 85 = .ok (.iinc 4 1, 3) := dk_132 4 1 (dk_at dksX4_runs_3 15 rfl rfl)
theorem dX4_runs_88 : decode cX4_runs 88 = .ok (.goto (-83), 3) := dk_167 255 173 (dk_at dksX4_runs_3 18 rfl rfl)
theorem dX4_runs_91 : decode cX4_runs 91 = .ok (.iload_n 3, 1) := dk_29 (dk_at dksX4_runs_3 21 rfl rfl)
theorem dX4_runs_92 : decode cX4_runs 92 = .ok (.ireturn, 1) := dk_172 (dk_at dksX4_runs_3 22 rfl rfl)
abbrev cX4_differences : ByteArray := prog_17_method_57_code
def yX4_differences : MethodName := ⟨RX4, "differences", "(I)I"⟩
def dkwX4_differences_3 : List UInt8 := [46, 27, 182, 0, 188, 100, 184, 0, 191, 96, 96, 61, 132, 3, 1, 167, 255, 173, 28, 172]
abbrev dktX4_differences_3 : List UInt8 := dkwX4_differences_3 ++ []
def dkwX4_differences_2 : List UInt8 := [42, 42, 180, 0, 43, 3, 46, 27, 182, 0, 81, 167, 0, 22, 21, 4, 42, 42, 180, 0, 43, 29, 4, 100]
abbrev dktX4_differences_2 : List UInt8 := dkwX4_differences_2 ++ dktX4_differences_3
def dkwX4_differences_1 : List UInt8 := [159, 0, 5, 2, 172, 42, 42, 180, 0, 43, 29, 46, 27, 182, 0, 188, 54, 4, 28, 4, 29, 154, 0, 17]
abbrev dktX4_differences_1 : List UInt8 := dkwX4_differences_1 ++ dktX4_differences_2
def dkwX4_differences_0 : List UInt8 := [3, 61, 3, 62, 29, 42, 180, 0, 182, 162, 0, 81, 42, 42, 180, 0, 43, 29, 46, 27, 182, 0, 108, 5]
abbrev dktX4_differences_0 : List UInt8 := dkwX4_differences_0 ++ dktX4_differences_1
theorem dksX4_differences_0 : cX4_differences.data.toList.drop 0 = dktX4_differences_0 := by decide +kernel
theorem dksX4_differences_1 : cX4_differences.data.toList.drop 24 = dktX4_differences_1 := dk_seg dksX4_differences_0 24 rfl rfl
theorem dksX4_differences_2 : cX4_differences.data.toList.drop 48 = dktX4_differences_2 := dk_seg dksX4_differences_1 24 rfl rfl
theorem dksX4_differences_3 : cX4_differences.data.toList.drop 72 = dktX4_differences_3 := dk_seg dksX4_differences_2 24 rfl rfl
theorem dX4_differences_0 : decode cX4_differences 0 = .ok (.iconst 0, 1) := dk_3 (dk_at dksX4_differences_0 0 rfl rfl)
theorem dX4_differences_1 : decode cX4_differences 1 = .ok (.istore_n 2, 1) := dk_61 (dk_at dksX4_differences_0 1 rfl rfl)
theorem dX4_differences_2 : decode cX4_differences 2 = .ok (.iconst 0, 1) := dk_3 (dk_at dksX4_differences_0 2 rfl rfl)
theorem dX4_differences_3 : decode cX4_differences 3 = .ok (.istore_n 3, 1) := dk_62 (dk_at dksX4_differences_0 3 rfl rfl)
theorem dX4_differences_4 : decode cX4_differences 4 = .ok (.iload_n 3, 1) := dk_29 (dk_at dksX4_differences_0 4 rfl rfl)
theorem dX4_differences_5 : decode cX4_differences 5 = .ok (.aload_n 0, 1) := dk_42 (dk_at dksX4_differences_0 5 rfl rfl)
theorem dX4_differences_6 : decode cX4_differences 6 = .ok (.getfield 182, 3) := dk_180 0 182 (dk_at dksX4_differences_0 6 rfl rfl)
theorem dX4_differences_9 : decode cX4_differences 9 = .ok (.if_icmp .ge 81, 3) := dk_162 0 81 (dk_at dksX4_differences_0 9 rfl rfl)
theorem dX4_differences_12 : decode cX4_differences 12 = .ok (.aload_n 0, 1) := dk_42 (dk_at dksX4_differences_0 12 rfl rfl)
theorem dX4_differences_13 : decode cX4_differences 13 = .ok (.aload_n 0, 1) := dk_42 (dk_at dksX4_differences_0 13 rfl rfl)
theorem dX4_differences_14 : decode cX4_differences 14 = .ok (.getfield 43, 3) := dk_180 0 43 (dk_at dksX4_differences_0 14 rfl rfl)
theorem dX4_differences_17 : decode cX4_differences 17 = .ok (.iload_n 3, 1) := dk_29 (dk_at dksX4_differences_0 17 rfl rfl)
theorem dX4_differences_18 : decode cX4_differences 18 = .ok (.iaload, 1) := dk_46 (dk_at dksX4_differences_0 18 rfl rfl)
theorem dX4_differences_19 : decode cX4_differences 19 = .ok (.iload_n 1, 1) := dk_27 (dk_at dksX4_differences_0 19 rfl rfl)
theorem dX4_differences_20 : decode cX4_differences 20 = .ok (.invokevirtual 108, 3) := dk_182 0 108 (dk_at dksX4_differences_0 20 rfl rfl)
theorem dX4_differences_23 : decode cX4_differences 23 = .ok (.iconst 2, 1) := dk_5 (dk_at dksX4_differences_0 23 rfl rfl)
theorem dX4_differences_24 : decode cX4_differences 24 = .ok (.if_icmp .eq 5, 3) := dk_159 0 5 (dk_at dksX4_differences_1 0 rfl rfl)
theorem dX4_differences_27 : decode cX4_differences 27 = .ok (.iconst (-1), 1) := dk_2 (dk_at dksX4_differences_1 3 rfl rfl)
theorem dX4_differences_28 : decode cX4_differences 28 = .ok (.ireturn, 1) := dk_172 (dk_at dksX4_differences_1 4 rfl rfl)
theorem dX4_differences_29 : decode cX4_differences 29 = .ok (.aload_n 0, 1) := dk_42 (dk_at dksX4_differences_1 5 rfl rfl)
theorem dX4_differences_30 : decode cX4_differences 30 = .ok (.aload_n 0, 1) := dk_42 (dk_at dksX4_differences_1 6 rfl rfl)
theorem dX4_differences_31 : decode cX4_differences 31 = .ok (.getfield 43, 3) := dk_180 0 43 (dk_at dksX4_differences_1 7 rfl rfl)
theorem dX4_differences_34 : decode cX4_differences 34 = .ok (.iload_n 3, 1) := dk_29 (dk_at dksX4_differences_1 10 rfl rfl)
theorem dX4_differences_35 : decode cX4_differences 35 = .ok (.iaload, 1) := dk_46 (dk_at dksX4_differences_1 11 rfl rfl)
theorem dX4_differences_36 : decode cX4_differences 36 = .ok (.iload_n 1, 1) := dk_27 (dk_at dksX4_differences_1 12 rfl rfl)
theorem dX4_differences_37 : decode cX4_differences 37 = .ok (.invokevirtual 188, 3) := dk_182 0 188 (dk_at dksX4_differences_1 13 rfl rfl)
theorem dX4_differences_40 : decode cX4_differences 40 = .ok (.istore 4, 2) := dk_54 4 (dk_at dksX4_differences_1 16 rfl rfl)
theorem dX4_differences_42 : decode cX4_differences 42 = .ok (.iload_n 2, 1) := dk_28 (dk_at dksX4_differences_1 18 rfl rfl)
theorem dX4_differences_43 : decode cX4_differences 43 = .ok (.iconst 1, 1) := dk_4 (dk_at dksX4_differences_1 19 rfl rfl)
theorem dX4_differences_44 : decode cX4_differences 44 = .ok (.iload_n 3, 1) := dk_29 (dk_at dksX4_differences_1 20 rfl rfl)
theorem dX4_differences_45 : decode cX4_differences 45 = .ok (.ifCond .ne 17, 3) := dk_154 0 17 (dk_at dksX4_differences_1 21 rfl rfl)
theorem dX4_differences_48 : decode cX4_differences 48 = .ok (.aload_n 0, 1) := dk_42 (dk_at dksX4_differences_2 0 rfl rfl)
theorem dX4_differences_49 : decode cX4_differences 49 = .ok (.aload_n 0, 1) := dk_42 (dk_at dksX4_differences_2 1 rfl rfl)
theorem dX4_differences_50 : decode cX4_differences 50 = .ok (.getfield 43, 3) := dk_180 0 43 (dk_at dksX4_differences_2 2 rfl rfl)
theorem dX4_differences_53 : decode cX4_differences 53 = .ok (.iconst 0, 1) := dk_3 (dk_at dksX4_differences_2 5 rfl rfl)
theorem dX4_differences_54 : decode cX4_differences 54 = .ok (.iaload, 1) := dk_46 (dk_at dksX4_differences_2 6 rfl rfl)
theorem dX4_differences_55 : decode cX4_differences 55 = .ok (.iload_n 1, 1) := dk_27 (dk_at dksX4_differences_2 7 rfl rfl)
theorem dX4_differences_56 : decode cX4_differences 56 = .ok (.invokevirtual 81, 3) := dk_182 0 81 (dk_at dksX4_differences_2 8 rfl rfl)
theorem dX4_differences_59 : decode cX4_differences 59 = .ok (.goto 22, 3) := dk_167 0 22 (dk_at dksX4_differences_2 11 rfl rfl)
theorem dX4_differences_62 : decode cX4_differences 62 = .ok (.iload 4, 2) := dk_21 4 (dk_at dksX4_differences_2 14 rfl rfl)
theorem dX4_differences_64 : decode cX4_differences 64 = .ok (.aload_n 0, 1) := dk_42 (dk_at dksX4_differences_2 16 rfl rfl)
theorem dX4_differences_65 : decode cX4_differences 65 = .ok (.aload_n 0, 1) := dk_42 (dk_at dksX4_differences_2 17 rfl rfl)
theorem dX4_differences_66 : decode cX4_differences 66 = .ok (.getfield 43, 3) := dk_180 0 43 (dk_at dksX4_differences_2 18 rfl rfl)
theorem dX4_differences_69 : decode cX4_differences 69 = .ok (.iload_n 3, 1) := dk_29 (dk_at dksX4_differences_2 21 rfl rfl)
theorem dX4_differences_70 : decode cX4_differences 70 = .ok (.iconst 1, 1) := dk_4 (dk_at dksX4_differences_2 22 rfl rfl)
theorem dX4_differences_71 : decode cX4_differences 71 = .ok (.isub, 1) := dk_100 (dk_at dksX4_differences_2 23 rfl rfl)
theorem dX4_differences_72 : decode cX4_differences 72 = .ok (.iaload, 1) := dk_46 (dk_at dksX4_differences_3 0 rfl rfl)
theorem dX4_differences_73 : decode cX4_differences 73 = .ok (.iload_n 1, 1) := dk_27 (dk_at dksX4_differences_3 1 rfl rfl)
theorem dX4_differences_74 : decode cX4_differences 74 = .ok (.invokevirtual 188, 3) := dk_182 0 188 (dk_at dksX4_differences_3 2 rfl rfl)
theorem dX4_differences_77 : decode cX4_differences 77 = .ok (.isub, 1) := dk_100 (dk_at dksX4_differences_3 5 rfl rfl)
theorem dX4_differences_78 : decode cX4_differences 78 = .ok (.invokestatic 191, 3) := dk_184 0 191 (dk_at dksX4_differences_3 6 rfl rfl)
theorem dX4_differences_81 : decode cX4_differences 81 = .ok (.iadd, 1) := dk_96 (dk_at dksX4_differences_3 9 rfl rfl)
theorem dX4_differences_82 : decode cX4_differences 82 = .ok (.iadd, 1) := dk_96 (dk_at dksX4_differences_3 10 rfl rfl)
theorem dX4_differences_83 : decode cX4_differences 83 = .ok (.istore_n 2, 1) := dk_61 (dk_at dksX4_differences_3 11 rfl rfl)
theorem dX4_differences_84 : decode cX4_differences 84 = .ok (.iinc 3 1, 3) := dk_132 3 1 (dk_at dksX4_differences_3 12 rfl rfl)
theorem dX4_differences_87 : decode cX4_differences 87 = .ok (.goto (-83), 3) := dk_167 255 173 (dk_at dksX4_differences_3 15 rfl rfl)
theorem dX4_differences_90 : decode cX4_differences 90 = .ok (.iload_n 2, 1) := dk_28 (dk_at dksX4_differences_3 18 rfl rfl)
theorem dX4_differences_91 : decode cX4_differences 91 = .ok (.ireturn, 1) := dk_172 (dk_at dksX4_differences_3 19 rfl rfl)
abbrev cX4_numberOf : ByteArray := prog_17_method_17_code
def yX4_numberOf : MethodName := ⟨RX4, "numberOf", "(II)I"⟩
def dkwX4_numberOf_3 : List UInt8 := [54, 4, 132, 5, 1, 167, 255, 224, 29, 153, 0, 9, 21, 4, 116, 167, 0, 5, 21, 4, 172]
abbrev dktX4_numberOf_3 : List UInt8 := dkwX4_numberOf_3 ++ []
def dkwX4_numberOf_2 : List UInt8 := [28, 182, 0, 75, 162, 0, 27, 16, 10, 21, 4, 104, 42, 27, 21, 5, 182, 0, 67, 96, 16, 48, 100]
abbrev dktX4_numberOf_2 : List UInt8 := dkwX4_numberOf_2 ++ dktX4_numberOf_3
def dkwX4_numberOf_1 : List UInt8 := [54, 4, 42, 27, 28, 182, 0, 78, 29, 153, 0, 7, 4, 167, 0, 4, 3, 96, 54, 5, 21, 5, 42, 27]
abbrev dktX4_numberOf_1 : List UInt8 := dkwX4_numberOf_1 ++ dktX4_numberOf_2
def dkwX4_numberOf_0 : List UInt8 := [42, 27, 42, 27, 28, 182, 0, 78, 182, 0, 67, 16, 45, 160, 0, 7, 4, 167, 0, 4, 3, 62, 3]
abbrev dktX4_numberOf_0 : List UInt8 := dkwX4_numberOf_0 ++ dktX4_numberOf_1
theorem dksX4_numberOf_0 : cX4_numberOf.data.toList.drop 0 = dktX4_numberOf_0 := by decide +kernel
theorem dksX4_numberOf_1 : cX4_numberOf.data.toList.drop 23 = dktX4_numberOf_1 := dk_seg dksX4_numberOf_0 23 rfl rfl
theorem dksX4_numberOf_2 : cX4_numberOf.data.toList.drop 47 = dktX4_numberOf_2 := dk_seg dksX4_numberOf_1 24 rfl rfl
theorem dksX4_numberOf_3 : cX4_numberOf.data.toList.drop 70 = dktX4_numberOf_3 := dk_seg dksX4_numberOf_2 23 rfl rfl
theorem dX4_numberOf_0 : decode cX4_numberOf 0 = .ok (.aload_n 0, 1) := dk_42 (dk_at dksX4_numberOf_0 0 rfl rfl)
theorem dX4_numberOf_1 : decode cX4_numberOf 1 = .ok (.iload_n 1, 1) := dk_27 (dk_at dksX4_numberOf_0 1 rfl rfl)
theorem dX4_numberOf_2 : decode cX4_numberOf 2 = .ok (.aload_n 0, 1) := dk_42 (dk_at dksX4_numberOf_0 2 rfl rfl)
theorem dX4_numberOf_3 : decode cX4_numberOf 3 = .ok (.iload_n 1, 1) := dk_27 (dk_at dksX4_numberOf_0 3 rfl rfl)
theorem dX4_numberOf_4 : decode cX4_numberOf 4 = .ok (.iload_n 2, 1) := dk_28 (dk_at dksX4_numberOf_0 4 rfl rfl)
theorem dX4_numberOf_5 : decode cX4_numberOf 5 = .ok (.invokevirtual 78, 3) := dk_182 0 78 (dk_at dksX4_numberOf_0 5 rfl rfl)
theorem dX4_numberOf_8 : decode cX4_numberOf 8 = .ok (.invokevirtual 67, 3) := dk_182 0 67 (dk_at dksX4_numberOf_0 8 rfl rfl)
theorem dX4_numberOf_11 : decode cX4_numberOf 11 = .ok (.bipush 45, 2) := dk_16 45 (dk_at dksX4_numberOf_0 11 rfl rfl)
theorem dX4_numberOf_13 : decode cX4_numberOf 13 = .ok (.if_icmp .ne 7, 3) := dk_160 0 7 (dk_at dksX4_numberOf_0 13 rfl rfl)
theorem dX4_numberOf_16 : decode cX4_numberOf 16 = .ok (.iconst 1, 1) := dk_4 (dk_at dksX4_numberOf_0 16 rfl rfl)
theorem dX4_numberOf_17 : decode cX4_numberOf 17 = .ok (.goto 4, 3) := dk_167 0 4 (dk_at dksX4_numberOf_0 17 rfl rfl)
theorem dX4_numberOf_20 : decode cX4_numberOf 20 = .ok (.iconst 0, 1) := dk_3 (dk_at dksX4_numberOf_0 20 rfl rfl)
theorem dX4_numberOf_21 : decode cX4_numberOf 21 = .ok (.istore_n 3, 1) := dk_62 (dk_at dksX4_numberOf_0 21 rfl rfl)
theorem dX4_numberOf_22 : decode cX4_numberOf 22 = .ok (.iconst 0, 1) := dk_3 (dk_at dksX4_numberOf_0 22 rfl rfl)
theorem dX4_numberOf_23 : decode cX4_numberOf 23 = .ok (.istore 4, 2) := dk_54 4 (dk_at dksX4_numberOf_1 0 rfl rfl)
theorem dX4_numberOf_25 : decode cX4_numberOf 25 = .ok (.aload_n 0, 1) := dk_42 (dk_at dksX4_numberOf_1 2 rfl rfl)
theorem dX4_numberOf_26 : decode cX4_numberOf 26 = .ok (.iload_n 1, 1) := dk_27 (dk_at dksX4_numberOf_1 3 rfl rfl)
theorem dX4_numberOf_27 : decode cX4_numberOf 27 = .ok (.iload_n 2, 1) := dk_28 (dk_at dksX4_numberOf_1 4 rfl rfl)
theorem dX4_numberOf_28 : decode cX4_numberOf 28 = .ok (.invokevirtual 78, 3) := dk_182 0 78 (dk_at dksX4_numberOf_1 5 rfl rfl)
theorem dX4_numberOf_31 : decode cX4_numberOf 31 = .ok (.iload_n 3, 1) := dk_29 (dk_at dksX4_numberOf_1 8 rfl rfl)
theorem dX4_numberOf_32 : decode cX4_numberOf 32 = .ok (.ifCond .eq 7, 3) := dk_153 0 7 (dk_at dksX4_numberOf_1 9 rfl rfl)
theorem dX4_numberOf_35 : decode cX4_numberOf 35 = .ok (.iconst 1, 1) := dk_4 (dk_at dksX4_numberOf_1 12 rfl rfl)
theorem dX4_numberOf_36 : decode cX4_numberOf 36 = .ok (.goto 4, 3) := dk_167 0 4 (dk_at dksX4_numberOf_1 13 rfl rfl)
theorem dX4_numberOf_39 : decode cX4_numberOf 39 = .ok (.iconst 0, 1) := dk_3 (dk_at dksX4_numberOf_1 16 rfl rfl)
theorem dX4_numberOf_40 : decode cX4_numberOf 40 = .ok (.iadd, 1) := dk_96 (dk_at dksX4_numberOf_1 17 rfl rfl)
theorem dX4_numberOf_41 : decode cX4_numberOf 41 = .ok (.istore 5, 2) := dk_54 5 (dk_at dksX4_numberOf_1 18 rfl rfl)
theorem dX4_numberOf_43 : decode cX4_numberOf 43 = .ok (.iload 5, 2) := dk_21 5 (dk_at dksX4_numberOf_1 20 rfl rfl)
theorem dX4_numberOf_45 : decode cX4_numberOf 45 = .ok (.aload_n 0, 1) := dk_42 (dk_at dksX4_numberOf_1 22 rfl rfl)
theorem dX4_numberOf_46 : decode cX4_numberOf 46 = .ok (.iload_n 1, 1) := dk_27 (dk_at dksX4_numberOf_1 23 rfl rfl)
theorem dX4_numberOf_47 : decode cX4_numberOf 47 = .ok (.iload_n 2, 1) := dk_28 (dk_at dksX4_numberOf_2 0 rfl rfl)
theorem dX4_numberOf_48 : decode cX4_numberOf 48 = .ok (.invokevirtual 75, 3) := dk_182 0 75 (dk_at dksX4_numberOf_2 1 rfl rfl)
theorem dX4_numberOf_51 : decode cX4_numberOf 51 = .ok (.if_icmp .ge 27, 3) := dk_162 0 27 (dk_at dksX4_numberOf_2 4 rfl rfl)
theorem dX4_numberOf_54 : decode cX4_numberOf 54 = .ok (.bipush 10, 2) := dk_16 10 (dk_at dksX4_numberOf_2 7 rfl rfl)
theorem dX4_numberOf_56 : decode cX4_numberOf 56 = .ok (.iload 4, 2) := dk_21 4 (dk_at dksX4_numberOf_2 9 rfl rfl)
theorem dX4_numberOf_58 : decode cX4_numberOf 58 = .ok (.imul, 1) := dk_104 (dk_at dksX4_numberOf_2 11 rfl rfl)
theorem dX4_numberOf_59 : decode cX4_numberOf 59 = .ok (.aload_n 0, 1) := dk_42 (dk_at dksX4_numberOf_2 12 rfl rfl)
theorem dX4_numberOf_60 : decode cX4_numberOf 60 = .ok (.iload_n 1, 1) := dk_27 (dk_at dksX4_numberOf_2 13 rfl rfl)
theorem dX4_numberOf_61 : decode cX4_numberOf 61 = .ok (.iload 5, 2) := dk_21 5 (dk_at dksX4_numberOf_2 14 rfl rfl)
theorem dX4_numberOf_63 : decode cX4_numberOf 63 = .ok (.invokevirtual 67, 3) := dk_182 0 67 (dk_at dksX4_numberOf_2 16 rfl rfl)
theorem dX4_numberOf_66 : decode cX4_numberOf 66 = .ok (.iadd, 1) := dk_96 (dk_at dksX4_numberOf_2 19 rfl rfl)
theorem dX4_numberOf_67 : decode cX4_numberOf 67 = .ok (.bipush 48, 2) := dk_16 48 (dk_at dksX4_numberOf_2 20 rfl rfl)
theorem dX4_numberOf_69 : decode cX4_numberOf 69 = .ok (.isub, 1) := dk_100 (dk_at dksX4_numberOf_2 22 rfl rfl)
theorem dX4_numberOf_70 : decode cX4_numberOf 70 = .ok (.istore 4, 2) := dk_54 4 (dk_at dksX4_numberOf_3 0 rfl rfl)
theorem dX4_numberOf_72 : decode cX4_numberOf 72 = .ok (.iinc 5 1, 3) := dk_132 5 1 (dk_at dksX4_numberOf_3 2 rfl rfl)
theorem dX4_numberOf_75 : decode cX4_numberOf 75 = .ok (.goto (-32), 3) := dk_167 255 224 (dk_at dksX4_numberOf_3 5 rfl rfl)
theorem dX4_numberOf_78 : decode cX4_numberOf 78 = .ok (.iload_n 3, 1) := dk_29 (dk_at dksX4_numberOf_3 8 rfl rfl)
theorem dX4_numberOf_79 : decode cX4_numberOf 79 = .ok (.ifCond .eq 9, 3) := dk_153 0 9 (dk_at dksX4_numberOf_3 9 rfl rfl)
theorem dX4_numberOf_82 : decode cX4_numberOf 82 = .ok (.iload 4, 2) := dk_21 4 (dk_at dksX4_numberOf_3 12 rfl rfl)
theorem dX4_numberOf_84 : decode cX4_numberOf 84 = .ok (.ineg, 1) := dk_116 (dk_at dksX4_numberOf_3 14 rfl rfl)
theorem dX4_numberOf_85 : decode cX4_numberOf 85 = .ok (.goto 5, 3) := dk_167 0 5 (dk_at dksX4_numberOf_3 15 rfl rfl)
theorem dX4_numberOf_88 : decode cX4_numberOf 88 = .ok (.iload 4, 2) := dk_21 4 (dk_at dksX4_numberOf_3 18 rfl rfl)
theorem dX4_numberOf_90 : decode cX4_numberOf 90 = .ok (.ireturn, 1) := dk_172 (dk_at dksX4_numberOf_3 20 rfl rfl)
abbrev cX4_digits : ByteArray := prog_17_method_54_code
def yX4_digits : MethodName := ⟨RX4, "digits", "(I)I"⟩
def dkwX4_digits_1 : List UInt8 := [16, 10, 108, 61, 167, 255, 244, 27, 172]
abbrev dktX4_digits_1 : List UInt8 := dkwX4_digits_1 ++ []
def dkwX4_digits_0 : List UInt8 := [26, 156, 0, 7, 5, 167, 0, 4, 4, 60, 26, 16, 10, 108, 61, 28, 153, 0, 14, 132, 1, 1, 28]
abbrev dktX4_digits_0 : List UInt8 := dkwX4_digits_0 ++ dktX4_digits_1
theorem dksX4_digits_0 : cX4_digits.data.toList.drop 0 = dktX4_digits_0 := by decide +kernel
theorem dksX4_digits_1 : cX4_digits.data.toList.drop 23 = dktX4_digits_1 := dk_seg dksX4_digits_0 23 rfl rfl
theorem dX4_digits_0 : decode cX4_digits 0 = .ok (.iload_n 0, 1) := dk_26 (dk_at dksX4_digits_0 0 rfl rfl)
theorem dX4_digits_1 : decode cX4_digits 1 = .ok (.ifCond .ge 7, 3) := dk_156 0 7 (dk_at dksX4_digits_0 1 rfl rfl)
theorem dX4_digits_4 : decode cX4_digits 4 = .ok (.iconst 2, 1) := dk_5 (dk_at dksX4_digits_0 4 rfl rfl)
theorem dX4_digits_5 : decode cX4_digits 5 = .ok (.goto 4, 3) := dk_167 0 4 (dk_at dksX4_digits_0 5 rfl rfl)
theorem dX4_digits_8 : decode cX4_digits 8 = .ok (.iconst 1, 1) := dk_4 (dk_at dksX4_digits_0 8 rfl rfl)
theorem dX4_digits_9 : decode cX4_digits 9 = .ok (.istore_n 1, 1) := dk_60 (dk_at dksX4_digits_0 9 rfl rfl)
theorem dX4_digits_10 : decode cX4_digits 10 = .ok (.iload_n 0, 1) := dk_26 (dk_at dksX4_digits_0 10 rfl rfl)
theorem dX4_digits_11 : decode cX4_digits 11 = .ok (.bipush 10, 2) := dk_16 10 (dk_at dksX4_digits_0 11 rfl rfl)
theorem dX4_digits_13 : decode cX4_digits 13 = .ok (.idiv, 1) := dk_108 (dk_at dksX4_digits_0 13 rfl rfl)
theorem dX4_digits_14 : decode cX4_digits 14 = .ok (.istore_n 2, 1) := dk_61 (dk_at dksX4_digits_0 14 rfl rfl)
theorem dX4_digits_15 : decode cX4_digits 15 = .ok (.iload_n 2, 1) := dk_28 (dk_at dksX4_digits_0 15 rfl rfl)
theorem dX4_digits_16 : decode cX4_digits 16 = .ok (.ifCond .eq 14, 3) := dk_153 0 14 (dk_at dksX4_digits_0 16 rfl rfl)
theorem dX4_digits_19 : decode cX4_digits 19 = .ok (.iinc 1 1, 3) := dk_132 1 1 (dk_at dksX4_digits_0 19 rfl rfl)
theorem dX4_digits_22 : decode cX4_digits 22 = .ok (.iload_n 2, 1) := dk_28 (dk_at dksX4_digits_0 22 rfl rfl)
theorem dX4_digits_23 : decode cX4_digits 23 = .ok (.bipush 10, 2) := dk_16 10 (dk_at dksX4_digits_1 0 rfl rfl)
theorem dX4_digits_25 : decode cX4_digits 25 = .ok (.idiv, 1) := dk_108 (dk_at dksX4_digits_1 2 rfl rfl)
theorem dX4_digits_26 : decode cX4_digits 26 = .ok (.istore_n 2, 1) := dk_61 (dk_at dksX4_digits_1 3 rfl rfl)
theorem dX4_digits_27 : decode cX4_digits 27 = .ok (.goto (-12), 3) := dk_167 255 244 (dk_at dksX4_digits_1 4 rfl rfl)
theorem dX4_digits_30 : decode cX4_digits 30 = .ok (.iload_n 1, 1) := dk_27 (dk_at dksX4_digits_1 7 rfl rfl)
theorem dX4_digits_31 : decode cX4_digits 31 = .ok (.ireturn, 1) := dk_172 (dk_at dksX4_digits_1 8 rfl rfl)
abbrev cX4_column : ByteArray := prog_17_method_63_code
def yX4_column : MethodName := ⟨RX4, "column", "(III)I"⟩
def dkwX4_column_6 : List UInt8 := [6, 160, 0, 8, 21, 6, 167, 0, 12, 42, 27, 21, 4, 21, 6, 182, 0, 207, 172]
abbrev dktX4_column_6 : List UInt8 := dkwX4_column_6 ++ []
def dkwX4_column_5 : List UInt8 := [160, 0, 8, 21, 5, 167, 0, 37, 29, 5, 160, 0, 13, 42, 21, 4, 3, 182, 0, 201, 167, 0, 22, 29]
abbrev dktX4_column_5 : List UInt8 := dkwX4_column_5 ++ dktX4_column_6
def dkwX4_column_4 : List UInt8 := [167, 255, 221, 42, 27, 21, 4, 182, 0, 211, 54, 6, 29, 154, 0, 8, 21, 4, 167, 0, 47, 29, 4]
abbrev dktX4_column_4 : List UInt8 := dkwX4_column_4 ++ dktX4_column_5
def dkwX4_column_3 : List UInt8 := [21, 4, 21, 6, 182, 0, 185, 21, 6, 160, 0, 7, 4, 167, 0, 4, 3, 96, 54, 5, 132, 6, 1]
abbrev dktX4_column_3 : List UInt8 := dkwX4_column_3 ++ dktX4_column_4
def dkwX4_column_2 : List UInt8 := [42, 27, 182, 0, 194, 3, 54, 5, 3, 54, 6, 21, 6, 42, 180, 0, 182, 162, 0, 32, 21, 5, 42]
abbrev dktX4_column_2 : List UInt8 := dkwX4_column_2 ++ dktX4_column_3
def dkwX4_column_1 : List UInt8 := [167, 0, 4, 3, 181, 0, 55, 42, 180, 0, 55, 158, 0, 5, 3, 172, 42, 27, 28, 182, 0, 179, 54, 4]
abbrev dktX4_column_1 : List UInt8 := dkwX4_column_1 ++ dktX4_column_2
def dkwX4_column_0 : List UInt8 := [42, 42, 27, 28, 182, 0, 223, 154, 0, 7, 4, 167, 0, 17, 29, 3, 7, 184, 0, 59, 154, 0, 7, 5]
abbrev dktX4_column_0 : List UInt8 := dkwX4_column_0 ++ dktX4_column_1
theorem dksX4_column_0 : cX4_column.data.toList.drop 0 = dktX4_column_0 := by decide +kernel
theorem dksX4_column_1 : cX4_column.data.toList.drop 24 = dktX4_column_1 := dk_seg dksX4_column_0 24 rfl rfl
theorem dksX4_column_2 : cX4_column.data.toList.drop 48 = dktX4_column_2 := dk_seg dksX4_column_1 24 rfl rfl
theorem dksX4_column_3 : cX4_column.data.toList.drop 71 = dktX4_column_3 := dk_seg dksX4_column_2 23 rfl rfl
theorem dksX4_column_4 : cX4_column.data.toList.drop 94 = dktX4_column_4 := dk_seg dksX4_column_3 23 rfl rfl
theorem dksX4_column_5 : cX4_column.data.toList.drop 117 = dktX4_column_5 := dk_seg dksX4_column_4 23 rfl rfl
theorem dksX4_column_6 : cX4_column.data.toList.drop 141 = dktX4_column_6 := dk_seg dksX4_column_5 24 rfl rfl
theorem dX4_column_0 : decode cX4_column 0 = .ok (.aload_n 0, 1) := dk_42 (dk_at dksX4_column_0 0 rfl rfl)
theorem dX4_column_1 : decode cX4_column 1 = .ok (.aload_n 0, 1) := dk_42 (dk_at dksX4_column_0 1 rfl rfl)
theorem dX4_column_2 : decode cX4_column 2 = .ok (.iload_n 1, 1) := dk_27 (dk_at dksX4_column_0 2 rfl rfl)
theorem dX4_column_3 : decode cX4_column 3 = .ok (.iload_n 2, 1) := dk_28 (dk_at dksX4_column_0 3 rfl rfl)
theorem dX4_column_4 : decode cX4_column 4 = .ok (.invokevirtual 223, 3) := dk_182 0 223 (dk_at dksX4_column_0 4 rfl rfl)
theorem dX4_column_7 : decode cX4_column 7 = .ok (.ifCond .ne 7, 3) := dk_154 0 7 (dk_at dksX4_column_0 7 rfl rfl)
theorem dX4_column_10 : decode cX4_column 10 = .ok (.iconst 1, 1) := dk_4 (dk_at dksX4_column_0 10 rfl rfl)
theorem dX4_column_11 : decode cX4_column 11 = .ok (.goto 17, 3) := dk_167 0 17 (dk_at dksX4_column_0 11 rfl rfl)
theorem dX4_column_14 : decode cX4_column 14 = .ok (.iload_n 3, 1) := dk_29 (dk_at dksX4_column_0 14 rfl rfl)
theorem dX4_column_15 : decode cX4_column 15 = .ok (.iconst 0, 1) := dk_3 (dk_at dksX4_column_0 15 rfl rfl)
theorem dX4_column_16 : decode cX4_column 16 = .ok (.iconst 4, 1) := dk_7 (dk_at dksX4_column_0 16 rfl rfl)
theorem dX4_column_17 : decode cX4_column 17 = .ok (.invokestatic 59, 3) := dk_184 0 59 (dk_at dksX4_column_0 17 rfl rfl)
theorem dX4_column_20 : decode cX4_column 20 = .ok (.ifCond .ne 7, 3) := dk_154 0 7 (dk_at dksX4_column_0 20 rfl rfl)
theorem dX4_column_23 : decode cX4_column 23 = .ok (.iconst 2, 1) := dk_5 (dk_at dksX4_column_0 23 rfl rfl)
theorem dX4_column_24 : decode cX4_column 24 = .ok (.goto 4, 3) := dk_167 0 4 (dk_at dksX4_column_1 0 rfl rfl)
theorem dX4_column_27 : decode cX4_column 27 = .ok (.iconst 0, 1) := dk_3 (dk_at dksX4_column_1 3 rfl rfl)
theorem dX4_column_28 : decode cX4_column 28 = .ok (.putfield 55, 3) := dk_181 0 55 (dk_at dksX4_column_1 4 rfl rfl)
theorem dX4_column_31 : decode cX4_column 31 = .ok (.aload_n 0, 1) := dk_42 (dk_at dksX4_column_1 7 rfl rfl)
theorem dX4_column_32 : decode cX4_column 32 = .ok (.getfield 55, 3) := dk_180 0 55 (dk_at dksX4_column_1 8 rfl rfl)
theorem dX4_column_35 : decode cX4_column 35 = .ok (.ifCond .le 5, 3) := dk_158 0 5 (dk_at dksX4_column_1 11 rfl rfl)
theorem dX4_column_38 : decode cX4_column 38 = .ok (.iconst 0, 1) := dk_3 (dk_at dksX4_column_1 14 rfl rfl)
theorem dX4_column_39 : decode cX4_column 39 = .ok (.ireturn, 1) := dk_172 (dk_at dksX4_column_1 15 rfl rfl)
theorem dX4_column_40 : decode cX4_column 40 = .ok (.aload_n 0, 1) := dk_42 (dk_at dksX4_column_1 16 rfl rfl)
theorem dX4_column_41 : decode cX4_column 41 = .ok (.iload_n 1, 1) := dk_27 (dk_at dksX4_column_1 17 rfl rfl)
theorem dX4_column_42 : decode cX4_column 42 = .ok (.iload_n 2, 1) := dk_28 (dk_at dksX4_column_1 18 rfl rfl)
theorem dX4_column_43 : decode cX4_column 43 = .ok (.invokevirtual 179, 3) := dk_182 0 179 (dk_at dksX4_column_1 19 rfl rfl)
theorem dX4_column_46 : decode cX4_column 46 = .ok (.istore 4, 2) := dk_54 4 (dk_at dksX4_column_1 22 rfl rfl)
theorem dX4_column_48 : decode cX4_column 48 = .ok (.aload_n 0, 1) := dk_42 (dk_at dksX4_column_2 0 rfl rfl)
theorem dX4_column_49 : decode cX4_column 49 = .ok (.iload_n 1, 1) := dk_27 (dk_at dksX4_column_2 1 rfl rfl)
theorem dX4_column_50 : decode cX4_column 50 = .ok (.invokevirtual 194, 3) := dk_182 0 194 (dk_at dksX4_column_2 2 rfl rfl)
theorem dX4_column_53 : decode cX4_column 53 = .ok (.iconst 0, 1) := dk_3 (dk_at dksX4_column_2 5 rfl rfl)
theorem dX4_column_54 : decode cX4_column 54 = .ok (.istore 5, 2) := dk_54 5 (dk_at dksX4_column_2 6 rfl rfl)
theorem dX4_column_56 : decode cX4_column 56 = .ok (.iconst 0, 1) := dk_3 (dk_at dksX4_column_2 8 rfl rfl)
theorem dX4_column_57 : decode cX4_column 57 = .ok (.istore 6, 2) := dk_54 6 (dk_at dksX4_column_2 9 rfl rfl)
theorem dX4_column_59 : decode cX4_column 59 = .ok (.iload 6, 2) := dk_21 6 (dk_at dksX4_column_2 11 rfl rfl)
theorem dX4_column_61 : decode cX4_column 61 = .ok (.aload_n 0, 1) := dk_42 (dk_at dksX4_column_2 13 rfl rfl)
theorem dX4_column_62 : decode cX4_column 62 = .ok (.getfield 182, 3) := dk_180 0 182 (dk_at dksX4_column_2 14 rfl rfl)
theorem dX4_column_65 : decode cX4_column 65 = .ok (.if_icmp .ge 32, 3) := dk_162 0 32 (dk_at dksX4_column_2 17 rfl rfl)
theorem dX4_column_68 : decode cX4_column 68 = .ok (.iload 5, 2) := dk_21 5 (dk_at dksX4_column_2 20 rfl rfl)
theorem dX4_column_70 : decode cX4_column 70 = .ok (.aload_n 0, 1) := dk_42 (dk_at dksX4_column_2 22 rfl rfl)
theorem dX4_column_71 : decode cX4_column 71 = .ok (.iload 4, 2) := dk_21 4 (dk_at dksX4_column_3 0 rfl rfl)
theorem dX4_column_73 : decode cX4_column 73 = .ok (.iload 6, 2) := dk_21 6 (dk_at dksX4_column_3 2 rfl rfl)
theorem dX4_column_75 : decode cX4_column 75 = .ok (.invokevirtual 185, 3) := dk_182 0 185 (dk_at dksX4_column_3 4 rfl rfl)
theorem dX4_column_78 : decode cX4_column 78 = .ok (.iload 6, 2) := dk_21 6 (dk_at dksX4_column_3 7 rfl rfl)
theorem dX4_column_80 : decode cX4_column 80 = .ok (.if_icmp .ne 7, 3) := dk_160 0 7 (dk_at dksX4_column_3 9 rfl rfl)
theorem dX4_column_83 : decode cX4_column 83 = .ok (.iconst 1, 1) := dk_4 (dk_at dksX4_column_3 12 rfl rfl)
theorem dX4_column_84 : decode cX4_column 84 = .ok (.goto 4, 3) := dk_167 0 4 (dk_at dksX4_column_3 13 rfl rfl)
theorem dX4_column_87 : decode cX4_column 87 = .ok (.iconst 0, 1) := dk_3 (dk_at dksX4_column_3 16 rfl rfl)
theorem dX4_column_88 : decode cX4_column 88 = .ok (.iadd, 1) := dk_96 (dk_at dksX4_column_3 17 rfl rfl)
theorem dX4_column_89 : decode cX4_column 89 = .ok (.istore 5, 2) := dk_54 5 (dk_at dksX4_column_3 18 rfl rfl)
theorem dX4_column_91 : decode cX4_column 91 = .ok (.iinc 6 1, 3) := dk_132 6 1 (dk_at dksX4_column_3 20 rfl rfl)
theorem dX4_column_94 : decode cX4_column 94 = .ok (.goto (-35), 3) := dk_167 255 221 (dk_at dksX4_column_4 0 rfl rfl)
theorem dX4_column_97 : decode cX4_column 97 = .ok (.aload_n 0, 1) := dk_42 (dk_at dksX4_column_4 3 rfl rfl)
theorem dX4_column_98 : decode cX4_column 98 = .ok (.iload_n 1, 1) := dk_27 (dk_at dksX4_column_4 4 rfl rfl)
theorem dX4_column_99 : decode cX4_column 99 = .ok (.iload 4, 2) := dk_21 4 (dk_at dksX4_column_4 5 rfl rfl)
theorem dX4_column_101 : decode cX4_column 101 = .ok (.invokevirtual 211, 3) := dk_182 0 211 (dk_at dksX4_column_4 7 rfl rfl)
theorem dX4_column_104 : decode cX4_column 104 = .ok (.istore 6, 2) := dk_54 6 (dk_at dksX4_column_4 10 rfl rfl)
theorem dX4_column_106 : decode cX4_column 106 = .ok (.iload_n 3, 1) := dk_29 (dk_at dksX4_column_4 12 rfl rfl)
theorem dX4_column_107 : decode cX4_column 107 = .ok (.ifCond .ne 8, 3) := dk_154 0 8 (dk_at dksX4_column_4 13 rfl rfl)
theorem dX4_column_110 : decode cX4_column 110 = .ok (.iload 4, 2) := dk_21 4 (dk_at dksX4_column_4 16 rfl rfl)
theorem dX4_column_112 : decode cX4_column 112 = .ok (.goto 47, 3) := dk_167 0 47 (dk_at dksX4_column_4 18 rfl rfl)
theorem dX4_column_115 : decode cX4_column 115 = .ok (.iload_n 3, 1) := dk_29 (dk_at dksX4_column_4 21 rfl rfl)
theorem dX4_column_116 : decode cX4_column 116 = .ok (.iconst 1, 1) := dk_4 (dk_at dksX4_column_4 22 rfl rfl)
theorem dX4_column_117 : decode cX4_column 117 = .ok (.if_icmp .ne 8, 3) := dk_160 0 8 (dk_at dksX4_column_5 0 rfl rfl)
theorem dX4_column_120 : decode cX4_column 120 = .ok (.iload 5, 2) := dk_21 5 (dk_at dksX4_column_5 3 rfl rfl)
theorem dX4_column_122 : decode cX4_column 122 = .ok (.goto 37, 3) := dk_167 0 37 (dk_at dksX4_column_5 5 rfl rfl)
theorem dX4_column_125 : decode cX4_column 125 = .ok (.iload_n 3, 1) := dk_29 (dk_at dksX4_column_5 8 rfl rfl)
theorem dX4_column_126 : decode cX4_column 126 = .ok (.iconst 2, 1) := dk_5 (dk_at dksX4_column_5 9 rfl rfl)
theorem dX4_column_127 : decode cX4_column 127 = .ok (.if_icmp .ne 13, 3) := dk_160 0 13 (dk_at dksX4_column_5 10 rfl rfl)
theorem dX4_column_130 : decode cX4_column 130 = .ok (.aload_n 0, 1) := dk_42 (dk_at dksX4_column_5 13 rfl rfl)
theorem dX4_column_131 : decode cX4_column 131 = .ok (.iload 4, 2) := dk_21 4 (dk_at dksX4_column_5 14 rfl rfl)
theorem dX4_column_133 : decode cX4_column 133 = .ok (.iconst 0, 1) := dk_3 (dk_at dksX4_column_5 16 rfl rfl)
theorem dX4_column_134 : decode cX4_column 134 = .ok (.invokevirtual 201, 3) := dk_182 0 201 (dk_at dksX4_column_5 17 rfl rfl)
theorem dX4_column_137 : decode cX4_column 137 = .ok (.goto 22, 3) := dk_167 0 22 (dk_at dksX4_column_5 20 rfl rfl)
theorem dX4_column_140 : decode cX4_column 140 = .ok (.iload_n 3, 1) := dk_29 (dk_at dksX4_column_5 23 rfl rfl)
theorem dX4_column_141 : decode cX4_column 141 = .ok (.iconst 3, 1) := dk_6 (dk_at dksX4_column_6 0 rfl rfl)
theorem dX4_column_142 : decode cX4_column 142 = .ok (.if_icmp .ne 8, 3) := dk_160 0 8 (dk_at dksX4_column_6 1 rfl rfl)
theorem dX4_column_145 : decode cX4_column 145 = .ok (.iload 6, 2) := dk_21 6 (dk_at dksX4_column_6 4 rfl rfl)
theorem dX4_column_147 : decode cX4_column 147 = .ok (.goto 12, 3) := dk_167 0 12 (dk_at dksX4_column_6 6 rfl rfl)
theorem dX4_column_150 : decode cX4_column 150 = .ok (.aload_n 0, 1) := dk_42 (dk_at dksX4_column_6 9 rfl rfl)
theorem dX4_column_151 : decode cX4_column 151 = .ok (.iload_n 1, 1) := dk_27 (dk_at dksX4_column_6 10 rfl rfl)
theorem dX4_column_152 : decode cX4_column 152 = .ok (.iload 4, 2) := dk_21 4 (dk_at dksX4_column_6 11 rfl rfl)
theorem dX4_column_154 : decode cX4_column 154 = .ok (.iload 6, 2) := dk_21 6 (dk_at dksX4_column_6 13 rfl rfl)
theorem dX4_column_156 : decode cX4_column 156 = .ok (.invokevirtual 207, 3) := dk_182 0 207 (dk_at dksX4_column_6 15 rfl rfl)
theorem dX4_column_159 : decode cX4_column 159 = .ok (.ireturn, 1) := dk_172 (dk_at dksX4_column_6 18 rfl rfl)
abbrev cX4_isColumn : ByteArray := prog_17_method_51_code
def yX4_isColumn : MethodName := ⟨RX4, "isColumn", "(II)Z"⟩
def dkwX4_isColumn_1 : List UInt8 := [167, 0, 4, 3, 172]
abbrev dktX4_isColumn_1 : List UInt8 := dkwX4_isColumn_1 ++ []
def dkwX4_isColumn_0 : List UInt8 := [42, 27, 182, 0, 91, 153, 0, 20, 28, 155, 0, 16, 42, 27, 28, 182, 0, 179, 155, 0, 7, 4]
abbrev dktX4_isColumn_0 : List UInt8 := dkwX4_isColumn_0 ++ dktX4_isColumn_1
theorem dksX4_isColumn_0 : cX4_isColumn.data.toList.drop 0 = dktX4_isColumn_0 := by decide +kernel
theorem dksX4_isColumn_1 : cX4_isColumn.data.toList.drop 22 = dktX4_isColumn_1 := dk_seg dksX4_isColumn_0 22 rfl rfl
theorem dX4_isColumn_0 : decode cX4_isColumn 0 = .ok (.aload_n 0, 1) := dk_42 (dk_at dksX4_isColumn_0 0 rfl rfl)
theorem dX4_isColumn_1 : decode cX4_isColumn 1 = .ok (.iload_n 1, 1) := dk_27 (dk_at dksX4_isColumn_0 1 rfl rfl)
theorem dX4_isColumn_2 : decode cX4_isColumn 2 = .ok (.invokevirtual 91, 3) := dk_182 0 91 (dk_at dksX4_isColumn_0 2 rfl rfl)
theorem dX4_isColumn_5 : decode cX4_isColumn 5 = .ok (.ifCond .eq 20, 3) := dk_153 0 20 (dk_at dksX4_isColumn_0 5 rfl rfl)
theorem dX4_isColumn_8 : decode cX4_isColumn 8 = .ok (.iload_n 2, 1) := dk_28 (dk_at dksX4_isColumn_0 8 rfl rfl)
theorem dX4_isColumn_9 : decode cX4_isColumn 9 = .ok (.ifCond .lt 16, 3) := dk_155 0 16 (dk_at dksX4_isColumn_0 9 rfl rfl)
theorem dX4_isColumn_12 : decode cX4_isColumn 12 = .ok (.aload_n 0, 1) := dk_42 (dk_at dksX4_isColumn_0 12 rfl rfl)
theorem dX4_isColumn_13 : decode cX4_isColumn 13 = .ok (.iload_n 1, 1) := dk_27 (dk_at dksX4_isColumn_0 13 rfl rfl)
theorem dX4_isColumn_14 : decode cX4_isColumn 14 = .ok (.iload_n 2, 1) := dk_28 (dk_at dksX4_isColumn_0 14 rfl rfl)
theorem dX4_isColumn_15 : decode cX4_isColumn 15 = .ok (.invokevirtual 179, 3) := dk_182 0 179 (dk_at dksX4_isColumn_0 15 rfl rfl)
theorem dX4_isColumn_18 : decode cX4_isColumn 18 = .ok (.ifCond .lt 7, 3) := dk_155 0 7 (dk_at dksX4_isColumn_0 18 rfl rfl)
theorem dX4_isColumn_21 : decode cX4_isColumn 21 = .ok (.iconst 1, 1) := dk_4 (dk_at dksX4_isColumn_0 21 rfl rfl)
theorem dX4_isColumn_22 : decode cX4_isColumn 22 = .ok (.goto 4, 3) := dk_167 0 4 (dk_at dksX4_isColumn_1 0 rfl rfl)
theorem dX4_isColumn_25 : decode cX4_isColumn 25 = .ok (.iconst 0, 1) := dk_3 (dk_at dksX4_isColumn_1 3 rfl rfl)
theorem dX4_isColumn_26 : decode cX4_isColumn 26 = .ok (.ireturn, 1) := dk_172 (dk_at dksX4_isColumn_1 4 rfl rfl)
abbrev cX4_tokenOf : ByteArray := prog_17_method_50_code
def yX4_tokenOf : MethodName := ⟨RX4, "tokenOf", "(II)I"⟩
def dkwX4_tokenOf_2 : List UInt8 := [172]
abbrev dktX4_tokenOf_2 : List UInt8 := dkwX4_tokenOf_2 ++ []
def dkwX4_tokenOf_1 : List UInt8 := [182, 0, 97, 2, 159, 0, 13, 29, 154, 0, 6, 21, 4, 172, 132, 3, 255, 132, 4, 1, 167, 255, 218, 2]
abbrev dktX4_tokenOf_1 : List UInt8 := dkwX4_tokenOf_1 ++ dktX4_tokenOf_2
def dkwX4_tokenOf_0 : List UInt8 := [28, 62, 3, 54, 4, 21, 4, 42, 27, 182, 0, 155, 162, 0, 34, 29, 155, 0, 30, 42, 27, 21, 4]
abbrev dktX4_tokenOf_0 : List UInt8 := dkwX4_tokenOf_0 ++ dktX4_tokenOf_1
theorem dksX4_tokenOf_0 : cX4_tokenOf.data.toList.drop 0 = dktX4_tokenOf_0 := by decide +kernel
theorem dksX4_tokenOf_1 : cX4_tokenOf.data.toList.drop 23 = dktX4_tokenOf_1 := dk_seg dksX4_tokenOf_0 23 rfl rfl
theorem dksX4_tokenOf_2 : cX4_tokenOf.data.toList.drop 47 = dktX4_tokenOf_2 := dk_seg dksX4_tokenOf_1 24 rfl rfl
theorem dX4_tokenOf_0 : decode cX4_tokenOf 0 = .ok (.iload_n 2, 1) := dk_28 (dk_at dksX4_tokenOf_0 0 rfl rfl)
theorem dX4_tokenOf_1 : decode cX4_tokenOf 1 = .ok (.istore_n 3, 1) := dk_62 (dk_at dksX4_tokenOf_0 1 rfl rfl)
theorem dX4_tokenOf_2 : decode cX4_tokenOf 2 = .ok (.iconst 0, 1) := dk_3 (dk_at dksX4_tokenOf_0 2 rfl rfl)
theorem dX4_tokenOf_3 : decode cX4_tokenOf 3 = .ok (.istore 4, 2) := dk_54 4 (dk_at dksX4_tokenOf_0 3 rfl rfl)
theorem dX4_tokenOf_5 : decode cX4_tokenOf 5 = .ok (.iload 4, 2) := dk_21 4 (dk_at dksX4_tokenOf_0 5 rfl rfl)
theorem dX4_tokenOf_7 : decode cX4_tokenOf 7 = .ok (.aload_n 0, 1) := dk_42 (dk_at dksX4_tokenOf_0 7 rfl rfl)
theorem dX4_tokenOf_8 : decode cX4_tokenOf 8 = .ok (.iload_n 1, 1) := dk_27 (dk_at dksX4_tokenOf_0 8 rfl rfl)
theorem dX4_tokenOf_9 : decode cX4_tokenOf 9 = .ok (.invokevirtual 155, 3) := dk_182 0 155 (dk_at dksX4_tokenOf_0 9 rfl rfl)
theorem dX4_tokenOf_12 : decode cX4_tokenOf 12 = .ok (.if_icmp .ge 34, 3) := dk_162 0 34 (dk_at dksX4_tokenOf_0 12 rfl rfl)
theorem dX4_tokenOf_15 : decode cX4_tokenOf 15 = .ok (.iload_n 3, 1) := dk_29 (dk_at dksX4_tokenOf_0 15 rfl rfl)
theorem dX4_tokenOf_16 : decode cX4_tokenOf 16 = .ok (.ifCond .lt 30, 3) := dk_155 0 30 (dk_at dksX4_tokenOf_0 16 rfl rfl)
theorem dX4_tokenOf_19 : decode cX4_tokenOf 19 = .ok (.aload_n 0, 1) := dk_42 (dk_at dksX4_tokenOf_0 19 rfl rfl)
theorem dX4_tokenOf_20 : decode cX4_tokenOf 20 = .ok (.iload_n 1, 1) := dk_27 (dk_at dksX4_tokenOf_0 20 rfl rfl)
theorem dX4_tokenOf_21 : decode cX4_tokenOf 21 = .ok (.iload 4, 2) := dk_21 4 (dk_at dksX4_tokenOf_0 21 rfl rfl)
theorem dX4_tokenOf_23 : decode cX4_tokenOf 23 = .ok (.invokevirtual 97, 3) := dk_182 0 97 (dk_at dksX4_tokenOf_1 0 rfl rfl)
theorem dX4_tokenOf_26 : decode cX4_tokenOf 26 = .ok (.iconst (-1), 1) := dk_2 (dk_at dksX4_tokenOf_1 3 rfl rfl)
theorem dX4_tokenOf_27 : decode cX4_tokenOf 27 = .ok (.if_icmp .eq 13, 3) := dk_159 0 13 (dk_at dksX4_tokenOf_1 4 rfl rfl)
theorem dX4_tokenOf_30 : decode cX4_tokenOf 30 = .ok (.iload_n 3, 1) := dk_29 (dk_at dksX4_tokenOf_1 7 rfl rfl)
theorem dX4_tokenOf_31 : decode cX4_tokenOf 31 = .ok (.ifCond .ne 6, 3) := dk_154 0 6 (dk_at dksX4_tokenOf_1 8 rfl rfl)
theorem dX4_tokenOf_34 : decode cX4_tokenOf 34 = .ok (.iload 4, 2) := dk_21 4 (dk_at dksX4_tokenOf_1 11 rfl rfl)
theorem dX4_tokenOf_36 : decode cX4_tokenOf 36 = .ok (.ireturn, 1) := dk_172 (dk_at dksX4_tokenOf_1 13 rfl rfl)
theorem dX4_tokenOf_37 : decode cX4_tokenOf 37 = .ok (.iinc 3 (-1), 3) := dk_132 3 255 (dk_at dksX4_tokenOf_1 14 rfl rfl)
theorem dX4_tokenOf_40 : decode cX4_tokenOf 40 = .ok (.iinc 4 1, 3) := dk_132 4 1 (dk_at dksX4_tokenOf_1 17 rfl rfl)
theorem dX4_tokenOf_43 : decode cX4_tokenOf 43 = .ok (.goto (-38), 3) := dk_167 255 218 (dk_at dksX4_tokenOf_1 20 rfl rfl)
theorem dX4_tokenOf_46 : decode cX4_tokenOf 46 = .ok (.iconst (-1), 1) := dk_2 (dk_at dksX4_tokenOf_1 23 rfl rfl)
theorem dX4_tokenOf_47 : decode cX4_tokenOf 47 = .ok (.ireturn, 1) := dk_172 (dk_at dksX4_tokenOf_2 0 rfl rfl)
abbrev cX4_cost : ByteArray := prog_17_method_64_code
def yX4_cost : MethodName := ⟨RX4, "cost", "(III)I"⟩
def dkwX4_cost_2 : List UInt8 := [182, 0, 179, 29, 182, 0, 207, 172]
abbrev dktX4_cost_2 : List UInt8 := dkwX4_cost_2 ++ []
def dkwX4_cost_1 : List UInt8 := [167, 0, 4, 3, 181, 0, 55, 42, 180, 0, 55, 158, 0, 7, 3, 167, 0, 15, 42, 27, 42, 27, 28]
abbrev dktX4_cost_1 : List UInt8 := dkwX4_cost_1 ++ dktX4_cost_2
def dkwX4_cost_0 : List UInt8 := [42, 42, 27, 28, 182, 0, 223, 154, 0, 7, 4, 167, 0, 17, 29, 3, 6, 184, 0, 59, 154, 0, 7, 5]
abbrev dktX4_cost_0 : List UInt8 := dkwX4_cost_0 ++ dktX4_cost_1
theorem dksX4_cost_0 : cX4_cost.data.toList.drop 0 = dktX4_cost_0 := by decide +kernel
theorem dksX4_cost_1 : cX4_cost.data.toList.drop 24 = dktX4_cost_1 := dk_seg dksX4_cost_0 24 rfl rfl
theorem dksX4_cost_2 : cX4_cost.data.toList.drop 47 = dktX4_cost_2 := dk_seg dksX4_cost_1 23 rfl rfl
theorem dX4_cost_0 : decode cX4_cost 0 = .ok (.aload_n 0, 1) := dk_42 (dk_at dksX4_cost_0 0 rfl rfl)
theorem dX4_cost_1 : decode cX4_cost 1 = .ok (.aload_n 0, 1) := dk_42 (dk_at dksX4_cost_0 1 rfl rfl)
theorem dX4_cost_2 : decode cX4_cost 2 = .ok (.iload_n 1, 1) := dk_27 (dk_at dksX4_cost_0 2 rfl rfl)
theorem dX4_cost_3 : decode cX4_cost 3 = .ok (.iload_n 2, 1) := dk_28 (dk_at dksX4_cost_0 3 rfl rfl)
theorem dX4_cost_4 : decode cX4_cost 4 = .ok (.invokevirtual 223, 3) := dk_182 0 223 (dk_at dksX4_cost_0 4 rfl rfl)
theorem dX4_cost_7 : decode cX4_cost 7 = .ok (.ifCond .ne 7, 3) := dk_154 0 7 (dk_at dksX4_cost_0 7 rfl rfl)
theorem dX4_cost_10 : decode cX4_cost 10 = .ok (.iconst 1, 1) := dk_4 (dk_at dksX4_cost_0 10 rfl rfl)
theorem dX4_cost_11 : decode cX4_cost 11 = .ok (.goto 17, 3) := dk_167 0 17 (dk_at dksX4_cost_0 11 rfl rfl)
theorem dX4_cost_14 : decode cX4_cost 14 = .ok (.iload_n 3, 1) := dk_29 (dk_at dksX4_cost_0 14 rfl rfl)
theorem dX4_cost_15 : decode cX4_cost 15 = .ok (.iconst 0, 1) := dk_3 (dk_at dksX4_cost_0 15 rfl rfl)
theorem dX4_cost_16 : decode cX4_cost 16 = .ok (.iconst 3, 1) := dk_6 (dk_at dksX4_cost_0 16 rfl rfl)
theorem dX4_cost_17 : decode cX4_cost 17 = .ok (.invokestatic 59, 3) := dk_184 0 59 (dk_at dksX4_cost_0 17 rfl rfl)
theorem dX4_cost_20 : decode cX4_cost 20 = .ok (.ifCond .ne 7, 3) := dk_154 0 7 (dk_at dksX4_cost_0 20 rfl rfl)
theorem dX4_cost_23 : decode cX4_cost 23 = .ok (.iconst 2, 1) := dk_5 (dk_at dksX4_cost_0 23 rfl rfl)
theorem dX4_cost_24 : decode cX4_cost 24 = .ok (.goto 4, 3) := dk_167 0 4 (dk_at dksX4_cost_1 0 rfl rfl)
theorem dX4_cost_27 : decode cX4_cost 27 = .ok (.iconst 0, 1) := dk_3 (dk_at dksX4_cost_1 3 rfl rfl)
theorem dX4_cost_28 : decode cX4_cost 28 = .ok (.putfield 55, 3) := dk_181 0 55 (dk_at dksX4_cost_1 4 rfl rfl)
theorem dX4_cost_31 : decode cX4_cost 31 = .ok (.aload_n 0, 1) := dk_42 (dk_at dksX4_cost_1 7 rfl rfl)
theorem dX4_cost_32 : decode cX4_cost 32 = .ok (.getfield 55, 3) := dk_180 0 55 (dk_at dksX4_cost_1 8 rfl rfl)
theorem dX4_cost_35 : decode cX4_cost 35 = .ok (.ifCond .le 7, 3) := dk_158 0 7 (dk_at dksX4_cost_1 11 rfl rfl)
theorem dX4_cost_38 : decode cX4_cost 38 = .ok (.iconst 0, 1) := dk_3 (dk_at dksX4_cost_1 14 rfl rfl)
theorem dX4_cost_39 : decode cX4_cost 39 = .ok (.goto 15, 3) := dk_167 0 15 (dk_at dksX4_cost_1 15 rfl rfl)
theorem dX4_cost_42 : decode cX4_cost 42 = .ok (.aload_n 0, 1) := dk_42 (dk_at dksX4_cost_1 18 rfl rfl)
theorem dX4_cost_43 : decode cX4_cost 43 = .ok (.iload_n 1, 1) := dk_27 (dk_at dksX4_cost_1 19 rfl rfl)
theorem dX4_cost_44 : decode cX4_cost 44 = .ok (.aload_n 0, 1) := dk_42 (dk_at dksX4_cost_1 20 rfl rfl)
theorem dX4_cost_45 : decode cX4_cost 45 = .ok (.iload_n 1, 1) := dk_27 (dk_at dksX4_cost_1 21 rfl rfl)
theorem dX4_cost_46 : decode cX4_cost 46 = .ok (.iload_n 2, 1) := dk_28 (dk_at dksX4_cost_1 22 rfl rfl)
theorem dX4_cost_47 : decode cX4_cost 47 = .ok (.invokevirtual 179, 3) := dk_182 0 179 (dk_at dksX4_cost_2 0 rfl rfl)
theorem dX4_cost_50 : decode cX4_cost 50 = .ok (.iload_n 3, 1) := dk_29 (dk_at dksX4_cost_2 3 rfl rfl)
theorem dX4_cost_51 : decode cX4_cost 51 = .ok (.invokevirtual 207, 3) := dk_182 0 207 (dk_at dksX4_cost_2 4 rfl rfl)
theorem dX4_cost_54 : decode cX4_cost 54 = .ok (.ireturn, 1) := dk_172 (dk_at dksX4_cost_2 7 rfl rfl)
abbrev cX4_code : ByteArray := prog_17_method_65_code
def yX4_code : MethodName := ⟨RX4, "code", "(III)I"⟩
def dkwX4_code_4 : List UInt8 := [4, 167, 0, 4, 3, 96, 54, 6, 132, 7, 1, 167, 255, 223, 21, 6, 172]
abbrev dktX4_code_4 : List UInt8 := dkwX4_code_4 ++ []
def dkwX4_code_3 : List UInt8 := [54, 7, 21, 7, 21, 5, 162, 0, 32, 21, 6, 42, 21, 4, 21, 7, 182, 0, 185, 21, 7, 160, 0, 7]
abbrev dktX4_code_3 : List UInt8 := dkwX4_code_3 ++ dktX4_code_4
def dkwX4_code_2 : List UInt8 := [182, 0, 179, 54, 4, 42, 27, 182, 0, 194, 42, 21, 4, 29, 182, 0, 185, 54, 5, 3, 54, 6, 3]
abbrev dktX4_code_2 : List UInt8 := dkwX4_code_2 ++ dktX4_code_3
def dkwX4_code_1 : List UInt8 := [154, 0, 7, 4, 167, 0, 4, 3, 181, 0, 55, 42, 180, 0, 55, 158, 0, 5, 3, 172, 42, 27, 28]
abbrev dktX4_code_1 : List UInt8 := dkwX4_code_1 ++ dktX4_code_2
def dkwX4_code_0 : List UInt8 := [42, 42, 27, 28, 182, 0, 223, 153, 0, 18, 29, 3, 42, 27, 182, 0, 164, 4, 100, 184, 0, 59]
abbrev dktX4_code_0 : List UInt8 := dkwX4_code_0 ++ dktX4_code_1
theorem dksX4_code_0 : cX4_code.data.toList.drop 0 = dktX4_code_0 := by decide +kernel
theorem dksX4_code_1 : cX4_code.data.toList.drop 22 = dktX4_code_1 := dk_seg dksX4_code_0 22 rfl rfl
theorem dksX4_code_2 : cX4_code.data.toList.drop 45 = dktX4_code_2 := dk_seg dksX4_code_1 23 rfl rfl
theorem dksX4_code_3 : cX4_code.data.toList.drop 68 = dktX4_code_3 := dk_seg dksX4_code_2 23 rfl rfl
theorem dksX4_code_4 : cX4_code.data.toList.drop 92 = dktX4_code_4 := dk_seg dksX4_code_3 24 rfl rfl
theorem dX4_code_0 : decode cX4_code 0 = .ok (.aload_n 0, 1) := dk_42 (dk_at dksX4_code_0 0 rfl rfl)
theorem dX4_code_1 : decode cX4_code 1 = .ok (.aload_n 0, 1) := dk_42 (dk_at dksX4_code_0 1 rfl rfl)
theorem dX4_code_2 : decode cX4_code 2 = .ok (.iload_n 1, 1) := dk_27 (dk_at dksX4_code_0 2 rfl rfl)
theorem dX4_code_3 : decode cX4_code 3 = .ok (.iload_n 2, 1) := dk_28 (dk_at dksX4_code_0 3 rfl rfl)
theorem dX4_code_4 : decode cX4_code 4 = .ok (.invokevirtual 223, 3) := dk_182 0 223 (dk_at dksX4_code_0 4 rfl rfl)
theorem dX4_code_7 : decode cX4_code 7 = .ok (.ifCond .eq 18, 3) := dk_153 0 18 (dk_at dksX4_code_0 7 rfl rfl)
theorem dX4_code_10 : decode cX4_code 10 = .ok (.iload_n 3, 1) := dk_29 (dk_at dksX4_code_0 10 rfl rfl)
theorem dX4_code_11 : decode cX4_code 11 = .ok (.iconst 0, 1) := dk_3 (dk_at dksX4_code_0 11 rfl rfl)
theorem dX4_code_12 : decode cX4_code 12 = .ok (.aload_n 0, 1) := dk_42 (dk_at dksX4_code_0 12 rfl rfl)
theorem dX4_code_13 : decode cX4_code 13 = .ok (.iload_n 1, 1) := dk_27 (dk_at dksX4_code_0 13 rfl rfl)
theorem dX4_code_14 : decode cX4_code 14 = .ok (.invokevirtual 164, 3) := dk_182 0 164 (dk_at dksX4_code_0 14 rfl rfl)
theorem dX4_code_17 : decode cX4_code 17 = .ok (.iconst 1, 1) := dk_4 (dk_at dksX4_code_0 17 rfl rfl)
theorem dX4_code_18 : decode cX4_code 18 = .ok (.isub, 1) := dk_100 (dk_at dksX4_code_0 18 rfl rfl)
theorem dX4_code_19 : decode cX4_code 19 = .ok (.invokestatic 59, 3) := dk_184 0 59 (dk_at dksX4_code_0 19 rfl rfl)
theorem dX4_code_22 : decode cX4_code 22 = .ok (.ifCond .ne 7, 3) := dk_154 0 7 (dk_at dksX4_code_1 0 rfl rfl)
theorem dX4_code_25 : decode cX4_code 25 = .ok (.iconst 1, 1) := dk_4 (dk_at dksX4_code_1 3 rfl rfl)
theorem dX4_code_26 : decode cX4_code 26 = .ok (.goto 4, 3) := dk_167 0 4 (dk_at dksX4_code_1 4 rfl rfl)
theorem dX4_code_29 : decode cX4_code 29 = .ok (.iconst 0, 1) := dk_3 (dk_at dksX4_code_1 7 rfl rfl)
theorem dX4_code_30 : decode cX4_code 30 = .ok (.putfield 55, 3) := dk_181 0 55 (dk_at dksX4_code_1 8 rfl rfl)
theorem dX4_code_33 : decode cX4_code 33 = .ok (.aload_n 0, 1) := dk_42 (dk_at dksX4_code_1 11 rfl rfl)
theorem dX4_code_34 : decode cX4_code 34 = .ok (.getfield 55, 3) := dk_180 0 55 (dk_at dksX4_code_1 12 rfl rfl)
theorem dX4_code_37 : decode cX4_code 37 = .ok (.ifCond .le 5, 3) := dk_158 0 5 (dk_at dksX4_code_1 15 rfl rfl)
theorem dX4_code_40 : decode cX4_code 40 = .ok (.iconst 0, 1) := dk_3 (dk_at dksX4_code_1 18 rfl rfl)
theorem dX4_code_41 : decode cX4_code 41 = .ok (.ireturn, 1) := dk_172 (dk_at dksX4_code_1 19 rfl rfl)
theorem dX4_code_42 : decode cX4_code 42 = .ok (.aload_n 0, 1) := dk_42 (dk_at dksX4_code_1 20 rfl rfl)
theorem dX4_code_43 : decode cX4_code 43 = .ok (.iload_n 1, 1) := dk_27 (dk_at dksX4_code_1 21 rfl rfl)
theorem dX4_code_44 : decode cX4_code 44 = .ok (.iload_n 2, 1) := dk_28 (dk_at dksX4_code_1 22 rfl rfl)
theorem dX4_code_45 : decode cX4_code 45 = .ok (.invokevirtual 179, 3) := dk_182 0 179 (dk_at dksX4_code_2 0 rfl rfl)
theorem dX4_code_48 : decode cX4_code 48 = .ok (.istore 4, 2) := dk_54 4 (dk_at dksX4_code_2 3 rfl rfl)
theorem dX4_code_50 : decode cX4_code 50 = .ok (.aload_n 0, 1) := dk_42 (dk_at dksX4_code_2 5 rfl rfl)
theorem dX4_code_51 : decode cX4_code 51 = .ok (.iload_n 1, 1) := dk_27 (dk_at dksX4_code_2 6 rfl rfl)
theorem dX4_code_52 : decode cX4_code 52 = .ok (.invokevirtual 194, 3) := dk_182 0 194 (dk_at dksX4_code_2 7 rfl rfl)
theorem dX4_code_55 : decode cX4_code 55 = .ok (.aload_n 0, 1) := dk_42 (dk_at dksX4_code_2 10 rfl rfl)
theorem dX4_code_56 : decode cX4_code 56 = .ok (.iload 4, 2) := dk_21 4 (dk_at dksX4_code_2 11 rfl rfl)
theorem dX4_code_58 : decode cX4_code 58 = .ok (.iload_n 3, 1) := dk_29 (dk_at dksX4_code_2 13 rfl rfl)
theorem dX4_code_59 : decode cX4_code 59 = .ok (.invokevirtual 185, 3) := dk_182 0 185 (dk_at dksX4_code_2 14 rfl rfl)
theorem dX4_code_62 : decode cX4_code 62 = .ok (.istore 5, 2) := dk_54 5 (dk_at dksX4_code_2 17 rfl rfl)
theorem dX4_code_64 : decode cX4_code 64 = .ok (.iconst 0, 1) := dk_3 (dk_at dksX4_code_2 19 rfl rfl)
theorem dX4_code_65 : decode cX4_code 65 = .ok (.istore 6, 2) := dk_54 6 (dk_at dksX4_code_2 20 rfl rfl)
theorem dX4_code_67 : decode cX4_code 67 = .ok (.iconst 0, 1) := dk_3 (dk_at dksX4_code_2 22 rfl rfl)
theorem dX4_code_68 : decode cX4_code 68 = .ok (.istore 7, 2) := dk_54 7 (dk_at dksX4_code_3 0 rfl rfl)
theorem dX4_code_70 : decode cX4_code 70 = .ok (.iload 7, 2) := dk_21 7 (dk_at dksX4_code_3 2 rfl rfl)
theorem dX4_code_72 : decode cX4_code 72 = .ok (.iload 5, 2) := dk_21 5 (dk_at dksX4_code_3 4 rfl rfl)
theorem dX4_code_74 : decode cX4_code 74 = .ok (.if_icmp .ge 32, 3) := dk_162 0 32 (dk_at dksX4_code_3 6 rfl rfl)
theorem dX4_code_77 : decode cX4_code 77 = .ok (.iload 6, 2) := dk_21 6 (dk_at dksX4_code_3 9 rfl rfl)
theorem dX4_code_79 : decode cX4_code 79 = .ok (.aload_n 0, 1) := dk_42 (dk_at dksX4_code_3 11 rfl rfl)
theorem dX4_code_80 : decode cX4_code 80 = .ok (.iload 4, 2) := dk_21 4 (dk_at dksX4_code_3 12 rfl rfl)
theorem dX4_code_82 : decode cX4_code 82 = .ok (.iload 7, 2) := dk_21 7 (dk_at dksX4_code_3 14 rfl rfl)
theorem dX4_code_84 : decode cX4_code 84 = .ok (.invokevirtual 185, 3) := dk_182 0 185 (dk_at dksX4_code_3 16 rfl rfl)
theorem dX4_code_87 : decode cX4_code 87 = .ok (.iload 7, 2) := dk_21 7 (dk_at dksX4_code_3 19 rfl rfl)
theorem dX4_code_89 : decode cX4_code 89 = .ok (.if_icmp .ne 7, 3) := dk_160 0 7 (dk_at dksX4_code_3 21 rfl rfl)
theorem dX4_code_92 : decode cX4_code 92 = .ok (.iconst 1, 1) := dk_4 (dk_at dksX4_code_4 0 rfl rfl)
theorem dX4_code_93 : decode cX4_code 93 = .ok (.goto 4, 3) := dk_167 0 4 (dk_at dksX4_code_4 1 rfl rfl)
theorem dX4_code_96 : decode cX4_code 96 = .ok (.iconst 0, 1) := dk_3 (dk_at dksX4_code_4 4 rfl rfl)
theorem dX4_code_97 : decode cX4_code 97 = .ok (.iadd, 1) := dk_96 (dk_at dksX4_code_4 5 rfl rfl)
theorem dX4_code_98 : decode cX4_code 98 = .ok (.istore 6, 2) := dk_54 6 (dk_at dksX4_code_4 6 rfl rfl)
theorem dX4_code_100 : decode cX4_code 100 = .ok (.iinc 7 1, 3) := dk_132 7 1 (dk_at dksX4_code_4 8 rfl rfl)
theorem dX4_code_103 : decode cX4_code 103 = .ok (.goto (-33), 3) := dk_167 255 223 (dk_at dksX4_code_4 11 rfl rfl)
theorem dX4_code_106 : decode cX4_code 106 = .ok (.iload 6, 2) := dk_21 6 (dk_at dksX4_code_4 14 rfl rfl)
theorem dX4_code_108 : decode cX4_code 108 = .ok (.ireturn, 1) := dk_172 (dk_at dksX4_code_4 16 rfl rfl)
abbrev cX4_value : ByteArray := prog_17_method_66_code
def yX4_value : MethodName := ⟨RX4, "value", "(III)I"⟩
def dkwX4_value_3 : List UInt8 := [160, 0, 14, 42, 21, 5, 21, 4, 182, 0, 188, 167, 0, 8, 42, 5, 182, 0, 122, 172]
abbrev dktX4_value_3 : List UInt8 := dkwX4_value_3 ++ []
def dkwX4_value_2 : List UInt8 := [182, 0, 179, 54, 4, 42, 27, 29, 182, 0, 88, 54, 5, 42, 21, 5, 21, 4, 182, 0, 108, 5]
abbrev dktX4_value_2 : List UInt8 := dkwX4_value_2 ++ dktX4_value_3
def dkwX4_value_1 : List UInt8 := [154, 0, 7, 4, 167, 0, 4, 3, 181, 0, 55, 42, 180, 0, 55, 158, 0, 5, 3, 172, 42, 27, 28]
abbrev dktX4_value_1 : List UInt8 := dkwX4_value_1 ++ dktX4_value_2
def dkwX4_value_0 : List UInt8 := [42, 42, 27, 28, 182, 0, 223, 153, 0, 18, 29, 3, 42, 27, 182, 0, 164, 4, 100, 184, 0, 59]
abbrev dktX4_value_0 : List UInt8 := dkwX4_value_0 ++ dktX4_value_1
theorem dksX4_value_0 : cX4_value.data.toList.drop 0 = dktX4_value_0 := by decide +kernel
theorem dksX4_value_1 : cX4_value.data.toList.drop 22 = dktX4_value_1 := dk_seg dksX4_value_0 22 rfl rfl
theorem dksX4_value_2 : cX4_value.data.toList.drop 45 = dktX4_value_2 := dk_seg dksX4_value_1 23 rfl rfl
theorem dksX4_value_3 : cX4_value.data.toList.drop 67 = dktX4_value_3 := dk_seg dksX4_value_2 22 rfl rfl
theorem dX4_value_0 : decode cX4_value 0 = .ok (.aload_n 0, 1) := dk_42 (dk_at dksX4_value_0 0 rfl rfl)
theorem dX4_value_1 : decode cX4_value 1 = .ok (.aload_n 0, 1) := dk_42 (dk_at dksX4_value_0 1 rfl rfl)
theorem dX4_value_2 : decode cX4_value 2 = .ok (.iload_n 1, 1) := dk_27 (dk_at dksX4_value_0 2 rfl rfl)
theorem dX4_value_3 : decode cX4_value 3 = .ok (.iload_n 2, 1) := dk_28 (dk_at dksX4_value_0 3 rfl rfl)
theorem dX4_value_4 : decode cX4_value 4 = .ok (.invokevirtual 223, 3) := dk_182 0 223 (dk_at dksX4_value_0 4 rfl rfl)
theorem dX4_value_7 : decode cX4_value 7 = .ok (.ifCond .eq 18, 3) := dk_153 0 18 (dk_at dksX4_value_0 7 rfl rfl)
theorem dX4_value_10 : decode cX4_value 10 = .ok (.iload_n 3, 1) := dk_29 (dk_at dksX4_value_0 10 rfl rfl)
theorem dX4_value_11 : decode cX4_value 11 = .ok (.iconst 0, 1) := dk_3 (dk_at dksX4_value_0 11 rfl rfl)
theorem dX4_value_12 : decode cX4_value 12 = .ok (.aload_n 0, 1) := dk_42 (dk_at dksX4_value_0 12 rfl rfl)
theorem dX4_value_13 : decode cX4_value 13 = .ok (.iload_n 1, 1) := dk_27 (dk_at dksX4_value_0 13 rfl rfl)
theorem dX4_value_14 : decode cX4_value 14 = .ok (.invokevirtual 164, 3) := dk_182 0 164 (dk_at dksX4_value_0 14 rfl rfl)
theorem dX4_value_17 : decode cX4_value 17 = .ok (.iconst 1, 1) := dk_4 (dk_at dksX4_value_0 17 rfl rfl)
theorem dX4_value_18 : decode cX4_value 18 = .ok (.isub, 1) := dk_100 (dk_at dksX4_value_0 18 rfl rfl)
theorem dX4_value_19 : decode cX4_value 19 = .ok (.invokestatic 59, 3) := dk_184 0 59 (dk_at dksX4_value_0 19 rfl rfl)
theorem dX4_value_22 : decode cX4_value 22 = .ok (.ifCond .ne 7, 3) := dk_154 0 7 (dk_at dksX4_value_1 0 rfl rfl)
theorem dX4_value_25 : decode cX4_value 25 = .ok (.iconst 1, 1) := dk_4 (dk_at dksX4_value_1 3 rfl rfl)
theorem dX4_value_26 : decode cX4_value 26 = .ok (.goto 4, 3) := dk_167 0 4 (dk_at dksX4_value_1 4 rfl rfl)
theorem dX4_value_29 : decode cX4_value 29 = .ok (.iconst 0, 1) := dk_3 (dk_at dksX4_value_1 7 rfl rfl)
theorem dX4_value_30 : decode cX4_value 30 = .ok (.putfield 55, 3) := dk_181 0 55 (dk_at dksX4_value_1 8 rfl rfl)
theorem dX4_value_33 : decode cX4_value 33 = .ok (.aload_n 0, 1) := dk_42 (dk_at dksX4_value_1 11 rfl rfl)
theorem dX4_value_34 : decode cX4_value 34 = .ok (.getfield 55, 3) := dk_180 0 55 (dk_at dksX4_value_1 12 rfl rfl)
theorem dX4_value_37 : decode cX4_value 37 = .ok (.ifCond .le 5, 3) := dk_158 0 5 (dk_at dksX4_value_1 15 rfl rfl)
theorem dX4_value_40 : decode cX4_value 40 = .ok (.iconst 0, 1) := dk_3 (dk_at dksX4_value_1 18 rfl rfl)
theorem dX4_value_41 : decode cX4_value 41 = .ok (.ireturn, 1) := dk_172 (dk_at dksX4_value_1 19 rfl rfl)
theorem dX4_value_42 : decode cX4_value 42 = .ok (.aload_n 0, 1) := dk_42 (dk_at dksX4_value_1 20 rfl rfl)
theorem dX4_value_43 : decode cX4_value 43 = .ok (.iload_n 1, 1) := dk_27 (dk_at dksX4_value_1 21 rfl rfl)
theorem dX4_value_44 : decode cX4_value 44 = .ok (.iload_n 2, 1) := dk_28 (dk_at dksX4_value_1 22 rfl rfl)
theorem dX4_value_45 : decode cX4_value 45 = .ok (.invokevirtual 179, 3) := dk_182 0 179 (dk_at dksX4_value_2 0 rfl rfl)
theorem dX4_value_48 : decode cX4_value 48 = .ok (.istore 4, 2) := dk_54 4 (dk_at dksX4_value_2 3 rfl rfl)
theorem dX4_value_50 : decode cX4_value 50 = .ok (.aload_n 0, 1) := dk_42 (dk_at dksX4_value_2 5 rfl rfl)
theorem dX4_value_51 : decode cX4_value 51 = .ok (.iload_n 1, 1) := dk_27 (dk_at dksX4_value_2 6 rfl rfl)
theorem dX4_value_52 : decode cX4_value 52 = .ok (.iload_n 3, 1) := dk_29 (dk_at dksX4_value_2 7 rfl rfl)
theorem dX4_value_53 : decode cX4_value 53 = .ok (.invokevirtual 88, 3) := dk_182 0 88 (dk_at dksX4_value_2 8 rfl rfl)
theorem dX4_value_56 : decode cX4_value 56 = .ok (.istore 5, 2) := dk_54 5 (dk_at dksX4_value_2 11 rfl rfl)
theorem dX4_value_58 : decode cX4_value 58 = .ok (.aload_n 0, 1) := dk_42 (dk_at dksX4_value_2 13 rfl rfl)
theorem dX4_value_59 : decode cX4_value 59 = .ok (.iload 5, 2) := dk_21 5 (dk_at dksX4_value_2 14 rfl rfl)
theorem dX4_value_61 : decode cX4_value 61 = .ok (.iload 4, 2) := dk_21 4 (dk_at dksX4_value_2 16 rfl rfl)
theorem dX4_value_63 : decode cX4_value 63 = .ok (.invokevirtual 108, 3) := dk_182 0 108 (dk_at dksX4_value_2 18 rfl rfl)
theorem dX4_value_66 : decode cX4_value 66 = .ok (.iconst 2, 1) := dk_5 (dk_at dksX4_value_2 21 rfl rfl)
theorem dX4_value_67 : decode cX4_value 67 = .ok (.if_icmp .ne 14, 3) := dk_160 0 14 (dk_at dksX4_value_3 0 rfl rfl)
theorem dX4_value_70 : decode cX4_value 70 = .ok (.aload_n 0, 1) := dk_42 (dk_at dksX4_value_3 3 rfl rfl)
theorem dX4_value_71 : decode cX4_value 71 = .ok (.iload 5, 2) := dk_21 5 (dk_at dksX4_value_3 4 rfl rfl)
theorem dX4_value_73 : decode cX4_value 73 = .ok (.iload 4, 2) := dk_21 4 (dk_at dksX4_value_3 6 rfl rfl)
theorem dX4_value_75 : decode cX4_value 75 = .ok (.invokevirtual 188, 3) := dk_182 0 188 (dk_at dksX4_value_3 8 rfl rfl)
theorem dX4_value_78 : decode cX4_value 78 = .ok (.goto 8, 3) := dk_167 0 8 (dk_at dksX4_value_3 11 rfl rfl)
theorem dX4_value_81 : decode cX4_value 81 = .ok (.aload_n 0, 1) := dk_42 (dk_at dksX4_value_3 14 rfl rfl)
theorem dX4_value_82 : decode cX4_value 82 = .ok (.iconst 2, 1) := dk_5 (dk_at dksX4_value_3 15 rfl rfl)
theorem dX4_value_83 : decode cX4_value 83 = .ok (.invokevirtual 122, 3) := dk_182 0 122 (dk_at dksX4_value_3 16 rfl rfl)
theorem dX4_value_86 : decode cX4_value 86 = .ok (.ireturn, 1) := dk_172 (dk_at dksX4_value_3 19 rfl rfl)
abbrev cX4_sum : ByteArray := prog_17_method_67_code
def yX4_sum : MethodName := ⟨RX4, "sum", "(II)J"⟩
def dkwX4_sum_4 : List UInt8 := [132, 6, 1, 167, 255, 206, 22, 4, 173]
abbrev dktX4_sum_4 : List UInt8 := dkwX4_sum_4 ++ []
def dkwX4_sum_3 : List UInt8 := [160, 0, 19, 42, 42, 180, 0, 43, 21, 6, 46, 29, 182, 0, 188, 133, 167, 0, 4, 9, 97, 55, 4]
abbrev dktX4_sum_3 : List UInt8 := dkwX4_sum_3 ++ dktX4_sum_4
def dkwX4_sum_2 : List UInt8 := [21, 6, 42, 180, 0, 182, 162, 0, 47, 22, 4, 42, 42, 180, 0, 43, 21, 6, 46, 29, 182, 0, 108, 5]
abbrev dktX4_sum_2 : List UInt8 := dkwX4_sum_2 ++ dktX4_sum_3
def dkwX4_sum_1 : List UInt8 := [158, 0, 5, 9, 173, 42, 27, 28, 182, 0, 179, 62, 42, 27, 182, 0, 194, 9, 55, 4, 3, 54, 6]
abbrev dktX4_sum_1 : List UInt8 := dkwX4_sum_1 ++ dktX4_sum_2
def dkwX4_sum_0 : List UInt8 := [42, 42, 27, 28, 182, 0, 223, 153, 0, 7, 3, 167, 0, 4, 4, 181, 0, 55, 42, 180, 0, 55]
abbrev dktX4_sum_0 : List UInt8 := dkwX4_sum_0 ++ dktX4_sum_1
theorem dksX4_sum_0 : cX4_sum.data.toList.drop 0 = dktX4_sum_0 := by decide +kernel
theorem dksX4_sum_1 : cX4_sum.data.toList.drop 22 = dktX4_sum_1 := dk_seg dksX4_sum_0 22 rfl rfl
theorem dksX4_sum_2 : cX4_sum.data.toList.drop 45 = dktX4_sum_2 := dk_seg dksX4_sum_1 23 rfl rfl
theorem dksX4_sum_3 : cX4_sum.data.toList.drop 69 = dktX4_sum_3 := dk_seg dksX4_sum_2 24 rfl rfl
theorem dksX4_sum_4 : cX4_sum.data.toList.drop 92 = dktX4_sum_4 := dk_seg dksX4_sum_3 23 rfl rfl
theorem dX4_sum_0 : decode cX4_sum 0 = .ok (.aload_n 0, 1) := dk_42 (dk_at dksX4_sum_0 0 rfl rfl)
theorem dX4_sum_1 : decode cX4_sum 1 = .ok (.aload_n 0, 1) := dk_42 (dk_at dksX4_sum_0 1 rfl rfl)
theorem dX4_sum_2 : decode cX4_sum 2 = .ok (.iload_n 1, 1) := dk_27 (dk_at dksX4_sum_0 2 rfl rfl)
theorem dX4_sum_3 : decode cX4_sum 3 = .ok (.iload_n 2, 1) := dk_28 (dk_at dksX4_sum_0 3 rfl rfl)
theorem dX4_sum_4 : decode cX4_sum 4 = .ok (.invokevirtual 223, 3) := dk_182 0 223 (dk_at dksX4_sum_0 4 rfl rfl)
theorem dX4_sum_7 : decode cX4_sum 7 = .ok (.ifCond .eq 7, 3) := dk_153 0 7 (dk_at dksX4_sum_0 7 rfl rfl)
theorem dX4_sum_10 : decode cX4_sum 10 = .ok (.iconst 0, 1) := dk_3 (dk_at dksX4_sum_0 10 rfl rfl)
theorem dX4_sum_11 : decode cX4_sum 11 = .ok (.goto 4, 3) := dk_167 0 4 (dk_at dksX4_sum_0 11 rfl rfl)
theorem dX4_sum_14 : decode cX4_sum 14 = .ok (.iconst 1, 1) := dk_4 (dk_at dksX4_sum_0 14 rfl rfl)
theorem dX4_sum_15 : decode cX4_sum 15 = .ok (.putfield 55, 3) := dk_181 0 55 (dk_at dksX4_sum_0 15 rfl rfl)
theorem dX4_sum_18 : decode cX4_sum 18 = .ok (.aload_n 0, 1) := dk_42 (dk_at dksX4_sum_0 18 rfl rfl)
theorem dX4_sum_19 : decode cX4_sum 19 = .ok (.getfield 55, 3) := dk_180 0 55 (dk_at dksX4_sum_0 19 rfl rfl)
theorem dX4_sum_22 : decode cX4_sum 22 = .ok (.ifCond .le 5, 3) := dk_158 0 5 (dk_at dksX4_sum_1 0 rfl rfl)
theorem dX4_sum_25 : decode cX4_sum 25 = .ok (.lconst 0, 1) := dk_9 (dk_at dksX4_sum_1 3 rfl rfl)
theorem dX4_sum_26 : decode cX4_sum 26 = .ok (.lreturn, 1) := dk_173 (dk_at dksX4_sum_1 4 rfl rfl)
theorem dX4_sum_27 : decode cX4_sum 27 = .ok (.aload_n 0, 1) := dk_42 (dk_at dksX4_sum_1 5 rfl rfl)
theorem dX4_sum_28 : decode cX4_sum 28 = .ok (.iload_n 1, 1) := dk_27 (dk_at dksX4_sum_1 6 rfl rfl)
theorem dX4_sum_29 : decode cX4_sum 29 = .ok (.iload_n 2, 1) := dk_28 (dk_at dksX4_sum_1 7 rfl rfl)
theorem dX4_sum_30 : decode cX4_sum 30 = .ok (.invokevirtual 179, 3) := dk_182 0 179 (dk_at dksX4_sum_1 8 rfl rfl)
theorem dX4_sum_33 : decode cX4_sum 33 = .ok (.istore_n 3, 1) := dk_62 (dk_at dksX4_sum_1 11 rfl rfl)
theorem dX4_sum_34 : decode cX4_sum 34 = .ok (.aload_n 0, 1) := dk_42 (dk_at dksX4_sum_1 12 rfl rfl)
theorem dX4_sum_35 : decode cX4_sum 35 = .ok (.iload_n 1, 1) := dk_27 (dk_at dksX4_sum_1 13 rfl rfl)
theorem dX4_sum_36 : decode cX4_sum 36 = .ok (.invokevirtual 194, 3) := dk_182 0 194 (dk_at dksX4_sum_1 14 rfl rfl)
theorem dX4_sum_39 : decode cX4_sum 39 = .ok (.lconst 0, 1) := dk_9 (dk_at dksX4_sum_1 17 rfl rfl)
theorem dX4_sum_40 : decode cX4_sum 40 = .ok (.lstore 4, 2) := dk_55 4 (dk_at dksX4_sum_1 18 rfl rfl)
theorem dX4_sum_42 : decode cX4_sum 42 = .ok (.iconst 0, 1) := dk_3 (dk_at dksX4_sum_1 20 rfl rfl)
theorem dX4_sum_43 : decode cX4_sum 43 = .ok (.istore 6, 2) := dk_54 6 (dk_at dksX4_sum_1 21 rfl rfl)
theorem dX4_sum_45 : decode cX4_sum 45 = .ok (.iload 6, 2) := dk_21 6 (dk_at dksX4_sum_2 0 rfl rfl)
theorem dX4_sum_47 : decode cX4_sum 47 = .ok (.aload_n 0, 1) := dk_42 (dk_at dksX4_sum_2 2 rfl rfl)
theorem dX4_sum_48 : decode cX4_sum 48 = .ok (.getfield 182, 3) := dk_180 0 182 (dk_at dksX4_sum_2 3 rfl rfl)
theorem dX4_sum_51 : decode cX4_sum 51 = .ok (.if_icmp .ge 47, 3) := dk_162 0 47 (dk_at dksX4_sum_2 6 rfl rfl)
theorem dX4_sum_54 : decode cX4_sum 54 = .ok (.lload 4, 2) := dk_22 4 (dk_at dksX4_sum_2 9 rfl rfl)
theorem dX4_sum_56 : decode cX4_sum 56 = .ok (.aload_n 0, 1) := dk_42 (dk_at dksX4_sum_2 11 rfl rfl)
theorem dX4_sum_57 : decode cX4_sum 57 = .ok (.aload_n 0, 1) := dk_42 (dk_at dksX4_sum_2 12 rfl rfl)
theorem dX4_sum_58 : decode cX4_sum 58 = .ok (.getfield 43, 3) := dk_180 0 43 (dk_at dksX4_sum_2 13 rfl rfl)
theorem dX4_sum_61 : decode cX4_sum 61 = .ok (.iload 6, 2) := dk_21 6 (dk_at dksX4_sum_2 16 rfl rfl)
theorem dX4_sum_63 : decode cX4_sum 63 = .ok (.iaload, 1) := dk_46 (dk_at dksX4_sum_2 18 rfl rfl)
theorem dX4_sum_64 : decode cX4_sum 64 = .ok (.iload_n 3, 1) := dk_29 (dk_at dksX4_sum_2 19 rfl rfl)
theorem dX4_sum_65 : decode cX4_sum 65 = .ok (.invokevirtual 108, 3) := dk_182 0 108 (dk_at dksX4_sum_2 20 rfl rfl)
theorem dX4_sum_68 : decode cX4_sum 68 = .ok (.iconst 2, 1) := dk_5 (dk_at dksX4_sum_2 23 rfl rfl)
theorem dX4_sum_69 : decode cX4_sum 69 = .ok (.if_icmp .ne 19, 3) := dk_160 0 19 (dk_at dksX4_sum_3 0 rfl rfl)
theorem dX4_sum_72 : decode cX4_sum 72 = .ok (.aload_n 0, 1) := dk_42 (dk_at dksX4_sum_3 3 rfl rfl)
theorem dX4_sum_73 : decode cX4_sum 73 = .ok (.aload_n 0, 1) := dk_42 (dk_at dksX4_sum_3 4 rfl rfl)
theorem dX4_sum_74 : decode cX4_sum 74 = .ok (.getfield 43, 3) := dk_180 0 43 (dk_at dksX4_sum_3 5 rfl rfl)
theorem dX4_sum_77 : decode cX4_sum 77 = .ok (.iload 6, 2) := dk_21 6 (dk_at dksX4_sum_3 8 rfl rfl)
theorem dX4_sum_79 : decode cX4_sum 79 = .ok (.iaload, 1) := dk_46 (dk_at dksX4_sum_3 10 rfl rfl)
theorem dX4_sum_80 : decode cX4_sum 80 = .ok (.iload_n 3, 1) := dk_29 (dk_at dksX4_sum_3 11 rfl rfl)
theorem dX4_sum_81 : decode cX4_sum 81 = .ok (.invokevirtual 188, 3) := dk_182 0 188 (dk_at dksX4_sum_3 12 rfl rfl)
theorem dX4_sum_84 : decode cX4_sum 84 = .ok (.i2l, 1) := dk_133 (dk_at dksX4_sum_3 15 rfl rfl)
theorem dX4_sum_85 : decode cX4_sum 85 = .ok (.goto 4, 3) := dk_167 0 4 (dk_at dksX4_sum_3 16 rfl rfl)
theorem dX4_sum_88 : decode cX4_sum 88 = .ok (.lconst 0, 1) := dk_9 (dk_at dksX4_sum_3 19 rfl rfl)
theorem dX4_sum_89 : decode cX4_sum 89 = .ok (.ladd, 1) := dk_97 (dk_at dksX4_sum_3 20 rfl rfl)
theorem dX4_sum_90 : decode cX4_sum 90 = .ok (.lstore 4, 2) := dk_55 4 (dk_at dksX4_sum_3 21 rfl rfl)
theorem dX4_sum_92 : decode cX4_sum 92 = .ok (.iinc 6 1, 3) := dk_132 6 1 (dk_at dksX4_sum_4 0 rfl rfl)
theorem dX4_sum_95 : decode cX4_sum 95 = .ok (.goto (-50), 3) := dk_167 255 206 (dk_at dksX4_sum_4 3 rfl rfl)
theorem dX4_sum_98 : decode cX4_sum 98 = .ok (.lload 4, 2) := dk_22 4 (dk_at dksX4_sum_4 6 rfl rfl)
theorem dX4_sum_100 : decode cX4_sum 100 = .ok (.lreturn, 1) := dk_173 (dk_at dksX4_sum_4 8 rfl rfl)
abbrev cX4_ratio : ByteArray := prog_17_method_68_code
def yX4_ratio : MethodName := ⟨RX4, "ratio", "()D"⟩
def dkwX4_ratio_1 : List UInt8 := [158, 0, 7, 14, 167, 0, 14, 42, 182, 0, 217, 135, 42, 182, 0, 220, 135, 111, 175]
abbrev dktX4_ratio_1 : List UInt8 := dkwX4_ratio_1 ++ []
def dkwX4_ratio_0 : List UInt8 := [42, 42, 180, 0, 9, 3, 46, 154, 0, 7, 4, 167, 0, 4, 3, 181, 0, 55, 42, 180, 0, 55]
abbrev dktX4_ratio_0 : List UInt8 := dkwX4_ratio_0 ++ dktX4_ratio_1
theorem dksX4_ratio_0 : cX4_ratio.data.toList.drop 0 = dktX4_ratio_0 := by decide +kernel
theorem dksX4_ratio_1 : cX4_ratio.data.toList.drop 22 = dktX4_ratio_1 := dk_seg dksX4_ratio_0 22 rfl rfl
theorem dX4_ratio_0 : decode cX4_ratio 0 = .ok (.aload_n 0, 1) := dk_42 (dk_at dksX4_ratio_0 0 rfl rfl)
theorem dX4_ratio_1 : decode cX4_ratio 1 = .ok (.aload_n 0, 1) := dk_42 (dk_at dksX4_ratio_0 1 rfl rfl)
theorem dX4_ratio_2 : decode cX4_ratio 2 = .ok (.getfield 9, 3) := dk_180 0 9 (dk_at dksX4_ratio_0 2 rfl rfl)
theorem dX4_ratio_5 : decode cX4_ratio 5 = .ok (.iconst 0, 1) := dk_3 (dk_at dksX4_ratio_0 5 rfl rfl)
theorem dX4_ratio_6 : decode cX4_ratio 6 = .ok (.iaload, 1) := dk_46 (dk_at dksX4_ratio_0 6 rfl rfl)
theorem dX4_ratio_7 : decode cX4_ratio 7 = .ok (.ifCond .ne 7, 3) := dk_154 0 7 (dk_at dksX4_ratio_0 7 rfl rfl)
theorem dX4_ratio_10 : decode cX4_ratio 10 = .ok (.iconst 1, 1) := dk_4 (dk_at dksX4_ratio_0 10 rfl rfl)
theorem dX4_ratio_11 : decode cX4_ratio 11 = .ok (.goto 4, 3) := dk_167 0 4 (dk_at dksX4_ratio_0 11 rfl rfl)
theorem dX4_ratio_14 : decode cX4_ratio 14 = .ok (.iconst 0, 1) := dk_3 (dk_at dksX4_ratio_0 14 rfl rfl)
theorem dX4_ratio_15 : decode cX4_ratio 15 = .ok (.putfield 55, 3) := dk_181 0 55 (dk_at dksX4_ratio_0 15 rfl rfl)
theorem dX4_ratio_18 : decode cX4_ratio 18 = .ok (.aload_n 0, 1) := dk_42 (dk_at dksX4_ratio_0 18 rfl rfl)
theorem dX4_ratio_19 : decode cX4_ratio 19 = .ok (.getfield 55, 3) := dk_180 0 55 (dk_at dksX4_ratio_0 19 rfl rfl)
theorem dX4_ratio_22 : decode cX4_ratio 22 = .ok (.ifCond .le 7, 3) := dk_158 0 7 (dk_at dksX4_ratio_1 0 rfl rfl)
theorem dX4_ratio_25 : decode cX4_ratio 25 = .ok (.dconst 0, 1) := dk_14 (dk_at dksX4_ratio_1 3 rfl rfl)
theorem dX4_ratio_26 : decode cX4_ratio 26 = .ok (.goto 14, 3) := dk_167 0 14 (dk_at dksX4_ratio_1 4 rfl rfl)
theorem dX4_ratio_29 : decode cX4_ratio 29 = .ok (.aload_n 0, 1) := dk_42 (dk_at dksX4_ratio_1 7 rfl rfl)
theorem dX4_ratio_30 : decode cX4_ratio 30 = .ok (.invokevirtual 217, 3) := dk_182 0 217 (dk_at dksX4_ratio_1 8 rfl rfl)
theorem dX4_ratio_33 : decode cX4_ratio 33 = .ok (.i2d, 1) := dk_135 (dk_at dksX4_ratio_1 11 rfl rfl)
theorem dX4_ratio_34 : decode cX4_ratio 34 = .ok (.aload_n 0, 1) := dk_42 (dk_at dksX4_ratio_1 12 rfl rfl)
theorem dX4_ratio_35 : decode cX4_ratio 35 = .ok (.invokevirtual 220, 3) := dk_182 0 220 (dk_at dksX4_ratio_1 13 rfl rfl)
theorem dX4_ratio_38 : decode cX4_ratio 38 = .ok (.i2d, 1) := dk_135 (dk_at dksX4_ratio_1 16 rfl rfl)
theorem dX4_ratio_39 : decode cX4_ratio 39 = .ok (.ddiv, 1) := dk_111 (dk_at dksX4_ratio_1 17 rfl rfl)
theorem dX4_ratio_40 : decode cX4_ratio 40 = .ok (.dreturn, 1) := dk_175 (dk_at dksX4_ratio_1 18 rfl rfl)
abbrev cX4_merge : ByteArray := prog_17_method_70_code
def yX4_merge : MethodName := ⟨RX4, "merge", "(II)I"⟩
def dkwX4_merge_4 : List UInt8 := [182, 0, 122, 172, 42, 182, 0, 145, 42, 29, 21, 4, 182, 0, 234, 42, 29, 182, 0, 161, 172]
abbrev dktX4_merge_4 : List UInt8 := dkwX4_merge_4 ++ []
def dkwX4_merge_3 : List UInt8 := [182, 0, 88, 182, 0, 104, 154, 0, 20, 42, 5, 21, 4, 16, 12, 29, 182, 0, 141, 87, 42, 6]
abbrev dktX4_merge_3 : List UInt8 := dkwX4_merge_3 ++ dktX4_merge_4
def dkwX4_merge_2 : List UInt8 := [184, 0, 226, 62, 27, 28, 184, 0, 231, 54, 4, 42, 42, 29, 3, 182, 0, 88, 42, 21, 4, 3]
abbrev dktX4_merge_2 : List UInt8 := dkwX4_merge_2 ++ dktX4_merge_3
def dkwX4_merge_1 : List UInt8 := [160, 0, 7, 5, 167, 0, 4, 3, 181, 0, 55, 42, 180, 0, 55, 158, 0, 5, 3, 172, 27, 28]
abbrev dktX4_merge_1 : List UInt8 := dkwX4_merge_1 ++ dktX4_merge_2
def dkwX4_merge_0 : List UInt8 := [42, 42, 27, 182, 0, 91, 153, 0, 11, 42, 28, 182, 0, 91, 154, 0, 7, 4, 167, 0, 13, 27, 28]
abbrev dktX4_merge_0 : List UInt8 := dkwX4_merge_0 ++ dktX4_merge_1
theorem dksX4_merge_0 : cX4_merge.data.toList.drop 0 = dktX4_merge_0 := by decide +kernel
theorem dksX4_merge_1 : cX4_merge.data.toList.drop 23 = dktX4_merge_1 := dk_seg dksX4_merge_0 23 rfl rfl
theorem dksX4_merge_2 : cX4_merge.data.toList.drop 45 = dktX4_merge_2 := dk_seg dksX4_merge_1 22 rfl rfl
theorem dksX4_merge_3 : cX4_merge.data.toList.drop 67 = dktX4_merge_3 := dk_seg dksX4_merge_2 22 rfl rfl
theorem dksX4_merge_4 : cX4_merge.data.toList.drop 89 = dktX4_merge_4 := dk_seg dksX4_merge_3 22 rfl rfl
theorem dX4_merge_0 : decode cX4_merge 0 = .ok (.aload_n 0, 1) := dk_42 (dk_at dksX4_merge_0 0 rfl rfl)
theorem dX4_merge_1 : decode cX4_merge 1 = .ok (.aload_n 0, 1) := dk_42 (dk_at dksX4_merge_0 1 rfl rfl)
theorem dX4_merge_2 : decode cX4_merge 2 = .ok (.iload_n 1, 1) := dk_27 (dk_at dksX4_merge_0 2 rfl rfl)
theorem dX4_merge_3 : decode cX4_merge 3 = .ok (.invokevirtual 91, 3) := dk_182 0 91 (dk_at dksX4_merge_0 3 rfl rfl)
theorem dX4_merge_6 : decode cX4_merge 6 = .ok (.ifCond .eq 11, 3) := dk_153 0 11 (dk_at dksX4_merge_0 6 rfl rfl)
theorem dX4_merge_9 : decode cX4_merge 9 = .ok (.aload_n 0, 1) := dk_42 (dk_at dksX4_merge_0 9 rfl rfl)
theorem dX4_merge_10 : decode cX4_merge 10 = .ok (.iload_n 2, 1) := dk_28 (dk_at dksX4_merge_0 10 rfl rfl)
theorem dX4_merge_11 : decode cX4_merge 11 = .ok (.invokevirtual 91, 3) := dk_182 0 91 (dk_at dksX4_merge_0 11 rfl rfl)
theorem dX4_merge_14 : decode cX4_merge 14 = .ok (.ifCond .ne 7, 3) := dk_154 0 7 (dk_at dksX4_merge_0 14 rfl rfl)
theorem dX4_merge_17 : decode cX4_merge 17 = .ok (.iconst 1, 1) := dk_4 (dk_at dksX4_merge_0 17 rfl rfl)
theorem dX4_merge_18 : decode cX4_merge 18 = .ok (.goto 13, 3) := dk_167 0 13 (dk_at dksX4_merge_0 18 rfl rfl)
theorem dX4_merge_21 : decode cX4_merge 21 = .ok (.iload_n 1, 1) := dk_27 (dk_at dksX4_merge_0 21 rfl rfl)
theorem dX4_merge_22 : decode cX4_merge 22 = .ok (.iload_n 2, 1) := dk_28 (dk_at dksX4_merge_0 22 rfl rfl)
theorem dX4_merge_23 : decode cX4_merge 23 = .ok (.if_icmp .ne 7, 3) := dk_160 0 7 (dk_at dksX4_merge_1 0 rfl rfl)
theorem dX4_merge_26 : decode cX4_merge 26 = .ok (.iconst 2, 1) := dk_5 (dk_at dksX4_merge_1 3 rfl rfl)
theorem dX4_merge_27 : decode cX4_merge 27 = .ok (.goto 4, 3) := dk_167 0 4 (dk_at dksX4_merge_1 4 rfl rfl)
theorem dX4_merge_30 : decode cX4_merge 30 = .ok (.iconst 0, 1) := dk_3 (dk_at dksX4_merge_1 7 rfl rfl)
theorem dX4_merge_31 : decode cX4_merge 31 = .ok (.putfield 55, 3) := dk_181 0 55 (dk_at dksX4_merge_1 8 rfl rfl)
theorem dX4_merge_34 : decode cX4_merge 34 = .ok (.aload_n 0, 1) := dk_42 (dk_at dksX4_merge_1 11 rfl rfl)
theorem dX4_merge_35 : decode cX4_merge 35 = .ok (.getfield 55, 3) := dk_180 0 55 (dk_at dksX4_merge_1 12 rfl rfl)
theorem dX4_merge_38 : decode cX4_merge 38 = .ok (.ifCond .le 5, 3) := dk_158 0 5 (dk_at dksX4_merge_1 15 rfl rfl)
theorem dX4_merge_41 : decode cX4_merge 41 = .ok (.iconst 0, 1) := dk_3 (dk_at dksX4_merge_1 18 rfl rfl)
theorem dX4_merge_42 : decode cX4_merge 42 = .ok (.ireturn, 1) := dk_172 (dk_at dksX4_merge_1 19 rfl rfl)
theorem dX4_merge_43 : decode cX4_merge 43 = .ok (.iload_n 1, 1) := dk_27 (dk_at dksX4_merge_1 20 rfl rfl)
theorem dX4_merge_44 : decode cX4_merge 44 = .ok (.iload_n 2, 1) := dk_28 (dk_at dksX4_merge_1 21 rfl rfl)
theorem dX4_merge_45 : decode cX4_merge 45 = .ok (.invokestatic 226, 3) := dk_184 0 226 (dk_at dksX4_merge_2 0 rfl rfl)
theorem dX4_merge_48 : decode cX4_merge 48 = .ok (.istore_n 3, 1) := dk_62 (dk_at dksX4_merge_2 3 rfl rfl)
theorem dX4_merge_49 : decode cX4_merge 49 = .ok (.iload_n 1, 1) := dk_27 (dk_at dksX4_merge_2 4 rfl rfl)
theorem dX4_merge_50 : decode cX4_merge 50 = .ok (.iload_n 2, 1) := dk_28 (dk_at dksX4_merge_2 5 rfl rfl)
theorem dX4_merge_51 : decode cX4_merge 51 = .ok (.invokestatic 231, 3) := dk_184 0 231 (dk_at dksX4_merge_2 6 rfl rfl)
theorem dX4_merge_54 : decode cX4_merge 54 = .ok (.istore 4, 2) := dk_54 4 (dk_at dksX4_merge_2 9 rfl rfl)
theorem dX4_merge_56 : decode cX4_merge 56 = .ok (.aload_n 0, 1) := dk_42 (dk_at dksX4_merge_2 11 rfl rfl)
theorem dX4_merge_57 : decode cX4_merge 57 = .ok (.aload_n 0, 1) := dk_42 (dk_at dksX4_merge_2 12 rfl rfl)
theorem dX4_merge_58 : decode cX4_merge 58 = .ok (.iload_n 3, 1) := dk_29 (dk_at dksX4_merge_2 13 rfl rfl)
theorem dX4_merge_59 : decode cX4_merge 59 = .ok (.iconst 0, 1) := dk_3 (dk_at dksX4_merge_2 14 rfl rfl)
theorem dX4_merge_60 : decode cX4_merge 60 = .ok (.invokevirtual 88, 3) := dk_182 0 88 (dk_at dksX4_merge_2 15 rfl rfl)
theorem dX4_merge_63 : decode cX4_merge 63 = .ok (.aload_n 0, 1) := dk_42 (dk_at dksX4_merge_2 18 rfl rfl)
theorem dX4_merge_64 : decode cX4_merge 64 = .ok (.iload 4, 2) := dk_21 4 (dk_at dksX4_merge_2 19 rfl rfl)
theorem dX4_merge_66 : decode cX4_merge 66 = .ok (.iconst 0, 1) := dk_3 (dk_at dksX4_merge_2 21 rfl rfl)
theorem dX4_merge_67 : decode cX4_merge 67 = .ok (.invokevirtual 88, 3) := dk_182 0 88 (dk_at dksX4_merge_3 0 rfl rfl)
theorem dX4_merge_70 : decode cX4_merge 70 = .ok (.invokevirtual 104, 3) := dk_182 0 104 (dk_at dksX4_merge_3 3 rfl rfl)
theorem dX4_merge_73 : decode cX4_merge 73 = .ok (.ifCond .ne 20, 3) := dk_154 0 20 (dk_at dksX4_merge_3 6 rfl rfl)
theorem dX4_merge_76 : decode cX4_merge 76 = .ok (.aload_n 0, 1) := dk_42 (dk_at dksX4_merge_3 9 rfl rfl)
theorem dX4_merge_77 : decode cX4_merge 77 = .ok (.iconst 2, 1) := dk_5 (dk_at dksX4_merge_3 10 rfl rfl)
theorem dX4_merge_78 : decode cX4_merge 78 = .ok (.iload 4, 2) := dk_21 4 (dk_at dksX4_merge_3 11 rfl rfl)
theorem dX4_merge_80 : decode cX4_merge 80 = .ok (.bipush 12, 2) := dk_16 12 (dk_at dksX4_merge_3 13 rfl rfl)
theorem dX4_merge_82 : decode cX4_merge 82 = .ok (.iload_n 3, 1) := dk_29 (dk_at dksX4_merge_3 15 rfl rfl)
theorem dX4_merge_83 : decode cX4_merge 83 = .ok (.invokevirtual 141, 3) := dk_182 0 141 (dk_at dksX4_merge_3 16 rfl rfl)
theorem dX4_merge_86 : decode cX4_merge 86 = .ok (.pop, 1) := dk_87 (dk_at dksX4_merge_3 19 rfl rfl)
theorem dX4_merge_87 : decode cX4_merge 87 = .ok (.aload_n 0, 1) := dk_42 (dk_at dksX4_merge_3 20 rfl rfl)
theorem dX4_merge_88 : decode cX4_merge 88 = .ok (.iconst 3, 1) := dk_6 (dk_at dksX4_merge_3 21 rfl rfl)
theorem dX4_merge_89 : decode cX4_merge 89 = .ok (.invokevirtual 122, 3) := dk_182 0 122 (dk_at dksX4_merge_4 0 rfl rfl)
theorem dX4_merge_92 : decode cX4_merge 92 = .ok (.ireturn, 1) := dk_172 (dk_at dksX4_merge_4 3 rfl rfl)
theorem dX4_merge_93 : decode cX4_merge 93 = .ok (.aload_n 0, 1) := dk_42 (dk_at dksX4_merge_4 4 rfl rfl)
theorem dX4_merge_94 : decode cX4_merge 94 = .ok (.invokevirtual 145, 3) := dk_182 0 145 (dk_at dksX4_merge_4 5 rfl rfl)
theorem dX4_merge_97 : decode cX4_merge 97 = .ok (.aload_n 0, 1) := dk_42 (dk_at dksX4_merge_4 8 rfl rfl)
theorem dX4_merge_98 : decode cX4_merge 98 = .ok (.iload_n 3, 1) := dk_29 (dk_at dksX4_merge_4 9 rfl rfl)
theorem dX4_merge_99 : decode cX4_merge 99 = .ok (.iload 4, 2) := dk_21 4 (dk_at dksX4_merge_4 10 rfl rfl)
theorem dX4_merge_101 : decode cX4_merge 101 = .ok (.invokevirtual 234, 3) := dk_182 0 234 (dk_at dksX4_merge_4 12 rfl rfl)
theorem dX4_merge_104 : decode cX4_merge 104 = .ok (.aload_n 0, 1) := dk_42 (dk_at dksX4_merge_4 15 rfl rfl)
theorem dX4_merge_105 : decode cX4_merge 105 = .ok (.iload_n 3, 1) := dk_29 (dk_at dksX4_merge_4 16 rfl rfl)
theorem dX4_merge_106 : decode cX4_merge 106 = .ok (.invokevirtual 161, 3) := dk_182 0 161 (dk_at dksX4_merge_4 17 rfl rfl)
theorem dX4_merge_109 : decode cX4_merge 109 = .ok (.ireturn, 1) := dk_172 (dk_at dksX4_merge_4 20 rfl rfl)
abbrev cX4_merges : ByteArray := prog_17_method_69_code
def yX4_merges : MethodName := ⟨RX4, "merges", "(II)V"⟩
def dkwX4_merges_5 : List UInt8 := [180, 0, 9, 16, 43, 21, 5, 96, 46, 79, 132, 5, 1, 167, 255, 204, 177]
abbrev dktX4_merges_5 : List UInt8 := dkwX4_merges_5 ++ []
def dkwX4_merges_4 : List UInt8 := [21, 5, 96, 42, 180, 0, 9, 16, 43, 21, 5, 96, 46, 28, 160, 0, 7, 27, 167, 0, 13, 42]
abbrev dktX4_merges_4 : List UInt8 := dkwX4_merges_4 ++ dktX4_merges_5
def dkwX4_merges_3 : List UInt8 := [167, 255, 203, 3, 54, 5, 21, 5, 42, 180, 0, 9, 3, 46, 162, 0, 47, 42, 180, 0, 9, 16, 43]
abbrev dktX4_merges_3 : List UInt8 := dkwX4_merges_3 ++ dktX4_merges_4
def dkwX4_merges_2 : List UInt8 := [21, 5, 182, 0, 97, 29, 42, 28, 21, 5, 182, 0, 97, 21, 4, 21, 5, 182, 0, 111, 79, 132, 5, 1]
abbrev dktX4_merges_2 : List UInt8 := dkwX4_merges_2 ++ dktX4_merges_3
def dkwX4_merges_1 : List UInt8 := [29, 46, 162, 0, 48, 42, 180, 0, 9, 17, 6, 188, 16, 20, 27, 104, 96, 21, 5, 96, 42, 42, 27]
abbrev dktX4_merges_1 : List UInt8 := dkwX4_merges_1 ++ dktX4_merges_2
def dkwX4_merges_0 : List UInt8 := [42, 27, 3, 182, 0, 88, 62, 42, 28, 3, 182, 0, 88, 54, 4, 3, 54, 5, 21, 5, 42, 180, 0, 22]
abbrev dktX4_merges_0 : List UInt8 := dkwX4_merges_0 ++ dktX4_merges_1
theorem dksX4_merges_0 : cX4_merges.data.toList.drop 0 = dktX4_merges_0 := by decide +kernel
theorem dksX4_merges_1 : cX4_merges.data.toList.drop 24 = dktX4_merges_1 := dk_seg dksX4_merges_0 24 rfl rfl
theorem dksX4_merges_2 : cX4_merges.data.toList.drop 47 = dktX4_merges_2 := dk_seg dksX4_merges_1 23 rfl rfl
theorem dksX4_merges_3 : cX4_merges.data.toList.drop 71 = dktX4_merges_3 := dk_seg dksX4_merges_2 24 rfl rfl
theorem dksX4_merges_4 : cX4_merges.data.toList.drop 94 = dktX4_merges_4 := dk_seg dksX4_merges_3 23 rfl rfl
theorem dksX4_merges_5 : cX4_merges.data.toList.drop 116 = dktX4_merges_5 := dk_seg dksX4_merges_4 22 rfl rfl
theorem dX4_merges_0 : decode cX4_merges 0 = .ok (.aload_n 0, 1) := dk_42 (dk_at dksX4_merges_0 0 rfl rfl)
theorem dX4_merges_1 : decode cX4_merges 1 = .ok (.iload_n 1, 1) := dk_27 (dk_at dksX4_merges_0 1 rfl rfl)
theorem dX4_merges_2 : decode cX4_merges 2 = .ok (.iconst 0, 1) := dk_3 (dk_at dksX4_merges_0 2 rfl rfl)
theorem dX4_merges_3 : decode cX4_merges 3 = .ok (.invokevirtual 88, 3) := dk_182 0 88 (dk_at dksX4_merges_0 3 rfl rfl)
theorem dX4_merges_6 : decode cX4_merges 6 = .ok (.istore_n 3, 1) := dk_62 (dk_at dksX4_merges_0 6 rfl rfl)
theorem dX4_merges_7 : decode cX4_merges 7 = .ok (.aload_n 0, 1) := dk_42 (dk_at dksX4_merges_0 7 rfl rfl)
theorem dX4_merges_8 : decode cX4_merges 8 = .ok (.iload_n 2, 1) := dk_28 (dk_at dksX4_merges_0 8 rfl rfl)
theorem dX4_merges_9 : decode cX4_merges 9 = .ok (.iconst 0, 1) := dk_3 (dk_at dksX4_merges_0 9 rfl rfl)
theorem dX4_merges_10 : decode cX4_merges 10 = .ok (.invokevirtual 88, 3) := dk_182 0 88 (dk_at dksX4_merges_0 10 rfl rfl)
theorem dX4_merges_13 : decode cX4_merges 13 = .ok (.istore 4, 2) := dk_54 4 (dk_at dksX4_merges_0 13 rfl rfl)
theorem dX4_merges_15 : decode cX4_merges 15 = .ok (.iconst 0, 1) := dk_3 (dk_at dksX4_merges_0 15 rfl rfl)
theorem dX4_merges_16 : decode cX4_merges 16 = .ok (.istore 5, 2) := dk_54 5 (dk_at dksX4_merges_0 16 rfl rfl)
theorem dX4_merges_18 : decode cX4_merges 18 = .ok (.iload 5, 2) := dk_21 5 (dk_at dksX4_merges_0 18 rfl rfl)
theorem dX4_merges_20 : decode cX4_merges 20 = .ok (.aload_n 0, 1) := dk_42 (dk_at dksX4_merges_0 20 rfl rfl)
theorem dX4_merges_21 : decode cX4_merges 21 = .ok (.getfield 22, 3) := dk_180 0 22 (dk_at dksX4_merges_0 21 rfl rfl)
theorem dX4_merges_24 : decode cX4_merges 24 = .ok (.iload_n 3, 1) := dk_29 (dk_at dksX4_merges_1 0 rfl rfl)
theorem dX4_merges_25 : decode cX4_merges 25 = .ok (.iaload, 1) := dk_46 (dk_at dksX4_merges_1 1 rfl rfl)
theorem dX4_merges_26 : decode cX4_merges 26 = .ok (.if_icmp .ge 48, 3) := dk_162 0 48 (dk_at dksX4_merges_1 2 rfl rfl)
theorem dX4_merges_29 : decode cX4_merges 29 = .ok (.aload_n 0, 1) := dk_42 (dk_at dksX4_merges_1 5 rfl rfl)
theorem dX4_merges_30 : decode cX4_merges 30 = .ok (.getfield 9, 3) := dk_180 0 9 (dk_at dksX4_merges_1 6 rfl rfl)
theorem dX4_merges_33 : decode cX4_merges 33 = .ok (.sipush 1724, 3) := dk_17 6 188 (dk_at dksX4_merges_1 9 rfl rfl)
theorem dX4_merges_36 : decode cX4_merges 36 = .ok (.bipush 20, 2) := dk_16 20 (dk_at dksX4_merges_1 12 rfl rfl)
theorem dX4_merges_38 : decode cX4_merges 38 = .ok (.iload_n 1, 1) := dk_27 (dk_at dksX4_merges_1 14 rfl rfl)
theorem dX4_merges_39 : decode cX4_merges 39 = .ok (.imul, 1) := dk_104 (dk_at dksX4_merges_1 15 rfl rfl)
theorem dX4_merges_40 : decode cX4_merges 40 = .ok (.iadd, 1) := dk_96 (dk_at dksX4_merges_1 16 rfl rfl)
theorem dX4_merges_41 : decode cX4_merges 41 = .ok (.iload 5, 2) := dk_21 5 (dk_at dksX4_merges_1 17 rfl rfl)
theorem dX4_merges_43 : decode cX4_merges 43 = .ok (.iadd, 1) := dk_96 (dk_at dksX4_merges_1 19 rfl rfl)
theorem dX4_merges_44 : decode cX4_merges 44 = .ok (.aload_n 0, 1) := dk_42 (dk_at dksX4_merges_1 20 rfl rfl)
theorem dX4_merges_45 : decode cX4_merges 45 = .ok (.aload_n 0, 1) := dk_42 (dk_at dksX4_merges_1 21 rfl rfl)
theorem dX4_merges_46 : decode cX4_merges 46 = .ok (.iload_n 1, 1) := dk_27 (dk_at dksX4_merges_1 22 rfl rfl)
theorem dX4_merges_47 : decode cX4_merges 47 = .ok (.iload 5, 2) := dk_21 5 (dk_at dksX4_merges_2 0 rfl rfl)
theorem dX4_merges_49 : decode cX4_merges 49 = .ok (.invokevirtual 97, 3) := dk_182 0 97 (dk_at dksX4_merges_2 2 rfl rfl)
theorem dX4_merges_52 : decode cX4_merges 52 = .ok (.iload_n 3, 1) := dk_29 (dk_at dksX4_merges_2 5 rfl rfl)
theorem dX4_merges_53 : decode cX4_merges 53 = .ok (.aload_n 0, 1) := dk_42 (dk_at dksX4_merges_2 6 rfl rfl)
theorem dX4_merges_54 : decode cX4_merges 54 = .ok (.iload_n 2, 1) := dk_28 (dk_at dksX4_merges_2 7 rfl rfl)
theorem dX4_merges_55 : decode cX4_merges 55 = .ok (.iload 5, 2) := dk_21 5 (dk_at dksX4_merges_2 8 rfl rfl)
theorem dX4_merges_57 : decode cX4_merges 57 = .ok (.invokevirtual 97, 3) := dk_182 0 97 (dk_at dksX4_merges_2 10 rfl rfl)
theorem dX4_merges_60 : decode cX4_merges 60 = .ok (.iload 4, 2) := dk_21 4 (dk_at dksX4_merges_2 13 rfl rfl)
theorem dX4_merges_62 : decode cX4_merges 62 = .ok (.iload 5, 2) := dk_21 5 (dk_at dksX4_merges_2 15 rfl rfl)
theorem dX4_merges_64 : decode cX4_merges 64 = .ok (.invokevirtual 111, 3) := dk_182 0 111 (dk_at dksX4_merges_2 17 rfl rfl)
theorem dX4_merges_67 : decode cX4_merges 67 = .ok (.iastore, 1) := dk_79 (dk_at dksX4_merges_2 20 rfl rfl)
theorem dX4_merges_68 : decode cX4_merges 68 = .ok (.iinc 5 1, 3) := dk_132 5 1 (dk_at dksX4_merges_2 21 rfl rfl)
theorem dX4_merges_71 : decode cX4_merges 71 = .ok (.goto (-53), 3) := dk_167 255 203 (dk_at dksX4_merges_3 0 rfl rfl)
theorem dX4_merges_74 : decode cX4_merges 74 = .ok (.iconst 0, 1) := dk_3 (dk_at dksX4_merges_3 3 rfl rfl)
theorem dX4_merges_75 : decode cX4_merges 75 = .ok (.istore 5, 2) := dk_54 5 (dk_at dksX4_merges_3 4 rfl rfl)
theorem dX4_merges_77 : decode cX4_merges 77 = .ok (.iload 5, 2) := dk_21 5 (dk_at dksX4_merges_3 6 rfl rfl)
theorem dX4_merges_79 : decode cX4_merges 79 = .ok (.aload_n 0, 1) := dk_42 (dk_at dksX4_merges_3 8 rfl rfl)
theorem dX4_merges_80 : decode cX4_merges 80 = .ok (.getfield 9, 3) := dk_180 0 9 (dk_at dksX4_merges_3 9 rfl rfl)
theorem dX4_merges_83 : decode cX4_merges 83 = .ok (.iconst 0, 1) := dk_3 (dk_at dksX4_merges_3 12 rfl rfl)
theorem dX4_merges_84 : decode cX4_merges 84 = .ok (.iaload, 1) := dk_46 (dk_at dksX4_merges_3 13 rfl rfl)
theorem dX4_merges_85 : decode cX4_merges 85 = .ok (.if_icmp .ge 47, 3) := dk_162 0 47 (dk_at dksX4_merges_3 14 rfl rfl)
theorem dX4_merges_88 : decode cX4_merges 88 = .ok (.aload_n 0, 1) := dk_42 (dk_at dksX4_merges_3 17 rfl rfl)
theorem dX4_merges_89 : decode cX4_merges 89 = .ok (.getfield 9, 3) := dk_180 0 9 (dk_at dksX4_merges_3 18 rfl rfl)
theorem dX4_merges_92 : decode cX4_merges 92 = .ok (.bipush 43, 2) := dk_16 43 (dk_at dksX4_merges_3 21 rfl rfl)
theorem dX4_merges_94 : decode cX4_merges 94 = .ok (.iload 5, 2) := dk_21 5 (dk_at dksX4_merges_4 0 rfl rfl)
theorem dX4_merges_96 : decode cX4_merges 96 = .ok (.iadd, 1) := dk_96 (dk_at dksX4_merges_4 2 rfl rfl)
theorem dX4_merges_97 : decode cX4_merges 97 = .ok (.aload_n 0, 1) := dk_42 (dk_at dksX4_merges_4 3 rfl rfl)
theorem dX4_merges_98 : decode cX4_merges 98 = .ok (.getfield 9, 3) := dk_180 0 9 (dk_at dksX4_merges_4 4 rfl rfl)
theorem dX4_merges_101 : decode cX4_merges 101 = .ok (.bipush 43, 2) := dk_16 43 (dk_at dksX4_merges_4 7 rfl rfl)
theorem dX4_merges_103 : decode cX4_merges 103 = .ok (.iload 5, 2) := dk_21 5 (dk_at dksX4_merges_4 9 rfl rfl)
theorem dX4_merges_105 : decode cX4_merges 105 = .ok (.iadd, 1) := dk_96 (dk_at dksX4_merges_4 11 rfl rfl)
theorem dX4_merges_106 : decode cX4_merges 106 = .ok (.iaload, 1) := dk_46 (dk_at dksX4_merges_4 12 rfl rfl)
theorem dX4_merges_107 : decode cX4_merges 107 = .ok (.iload_n 2, 1) := dk_28 (dk_at dksX4_merges_4 13 rfl rfl)
theorem dX4_merges_108 : decode cX4_merges 108 = .ok (.if_icmp .ne 7, 3) := dk_160 0 7 (dk_at dksX4_merges_4 14 rfl rfl)
theorem dX4_merges_111 : decode cX4_merges 111 = .ok (.iload_n 1, 1) := dk_27 (dk_at dksX4_merges_4 17 rfl rfl)
theorem dX4_merges_112 : decode cX4_merges 112 = .ok (.goto 13, 3) := dk_167 0 13 (dk_at dksX4_merges_4 18 rfl rfl)
theorem dX4_merges_115 : decode cX4_merges 115 = .ok (.aload_n 0, 1) := dk_42 (dk_at dksX4_merges_4 21 rfl rfl)
theorem dX4_merges_116 : decode cX4_merges 116 = .ok (.getfield 9, 3) := dk_180 0 9 (dk_at dksX4_merges_5 0 rfl rfl)
theorem dX4_merges_119 : decode cX4_merges 119 = .ok (.bipush 43, 2) := dk_16 43 (dk_at dksX4_merges_5 3 rfl rfl)
theorem dX4_merges_121 : decode cX4_merges 121 = .ok (.iload 5, 2) := dk_21 5 (dk_at dksX4_merges_5 5 rfl rfl)
theorem dX4_merges_123 : decode cX4_merges 123 = .ok (.iadd, 1) := dk_96 (dk_at dksX4_merges_5 7 rfl rfl)
theorem dX4_merges_124 : decode cX4_merges 124 = .ok (.iaload, 1) := dk_46 (dk_at dksX4_merges_5 8 rfl rfl)
theorem dX4_merges_125 : decode cX4_merges 125 = .ok (.iastore, 1) := dk_79 (dk_at dksX4_merges_5 9 rfl rfl)
theorem dX4_merges_126 : decode cX4_merges 126 = .ok (.iinc 5 1, 3) := dk_132 5 1 (dk_at dksX4_merges_5 10 rfl rfl)
theorem dX4_merges_129 : decode cX4_merges 129 = .ok (.goto (-52), 3) := dk_167 255 204 (dk_at dksX4_merges_5 13 rfl rfl)
theorem dX4_merges_132 : decode cX4_merges 132 = .ok (.return_, 1) := dk_177 (dk_at dksX4_merges_5 16 rfl rfl)
abbrev cX4_split : ByteArray := prog_17_method_72_code
def yX4_split : MethodName := ⟨RX4, "split", "(II)I"⟩
def dkwX4_split_7 : List UInt8 := [172]
abbrev dktX4_split_7 : List UInt8 := dkwX4_split_7 ++ []
def dkwX4_split_6 : List UInt8 := [167, 0, 4, 27, 79, 132, 6, 1, 167, 255, 205, 42, 27, 182, 0, 237, 42, 21, 4, 182, 0, 237, 21, 4]
abbrev dktX4_split_6 : List UInt8 := dkwX4_split_6 ++ dktX4_split_7
def dkwX4_split_5 : List UInt8 := [46, 96, 42, 21, 5, 29, 42, 180, 0, 43, 21, 6, 46, 29, 182, 0, 100, 153, 0, 8, 21, 4]
abbrev dktX4_split_5 : List UInt8 := dkwX4_split_5 ++ dktX4_split_6
def dkwX4_split_4 : List UInt8 := [3, 54, 6, 21, 6, 42, 180, 0, 182, 162, 0, 48, 42, 180, 0, 9, 16, 43, 42, 180, 0, 43, 21, 6]
abbrev dktX4_split_4 : List UInt8 := dkwX4_split_4 ++ dktX4_split_5
def dkwX4_split_3 : List UInt8 := [42, 6, 182, 0, 122, 172, 42, 182, 0, 145, 42, 182, 0, 134, 54, 4, 42, 180, 0, 43, 3, 46, 54, 5]
abbrev dktX4_split_3 : List UInt8 := dkwX4_split_3 ++ dktX4_split_4
def dkwX4_split_2 : List UInt8 := [27, 182, 0, 194, 42, 29, 3, 182, 0, 201, 4, 160, 0, 19, 42, 6, 27, 16, 13, 28, 182, 0, 141, 87]
abbrev dktX4_split_2 : List UInt8 := dkwX4_split_2 ++ dktX4_split_3
def dkwX4_split_1 : List UInt8 := [167, 0, 4, 3, 181, 0, 55, 42, 180, 0, 55, 158, 0, 5, 3, 172, 42, 27, 28, 182, 0, 179, 62, 42]
abbrev dktX4_split_1 : List UInt8 := dkwX4_split_1 ++ dktX4_split_2
def dkwX4_split_0 : List UInt8 := [42, 42, 27, 28, 182, 0, 223, 154, 0, 7, 4, 167, 0, 17, 42, 182, 0, 214, 16, 12, 160, 0, 7, 5]
abbrev dktX4_split_0 : List UInt8 := dkwX4_split_0 ++ dktX4_split_1
theorem dksX4_split_0 : cX4_split.data.toList.drop 0 = dktX4_split_0 := by decide +kernel
theorem dksX4_split_1 : cX4_split.data.toList.drop 24 = dktX4_split_1 := dk_seg dksX4_split_0 24 rfl rfl
theorem dksX4_split_2 : cX4_split.data.toList.drop 48 = dktX4_split_2 := dk_seg dksX4_split_1 24 rfl rfl
theorem dksX4_split_3 : cX4_split.data.toList.drop 72 = dktX4_split_3 := dk_seg dksX4_split_2 24 rfl rfl
theorem dksX4_split_4 : cX4_split.data.toList.drop 96 = dktX4_split_4 := dk_seg dksX4_split_3 24 rfl rfl
theorem dksX4_split_5 : cX4_split.data.toList.drop 120 = dktX4_split_5 := dk_seg dksX4_split_4 24 rfl rfl
theorem dksX4_split_6 : cX4_split.data.toList.drop 142 = dktX4_split_6 := dk_seg dksX4_split_5 22 rfl rfl
theorem dksX4_split_7 : cX4_split.data.toList.drop 166 = dktX4_split_7 := dk_seg dksX4_split_6 24 rfl rfl
theorem dX4_split_0 : decode cX4_split 0 = .ok (.aload_n 0, 1) := dk_42 (dk_at dksX4_split_0 0 rfl rfl)
theorem dX4_split_1 : decode cX4_split 1 = .ok (.aload_n 0, 1) := dk_42 (dk_at dksX4_split_0 1 rfl rfl)
theorem dX4_split_2 : decode cX4_split 2 = .ok (.iload_n 1, 1) := dk_27 (dk_at dksX4_split_0 2 rfl rfl)
theorem dX4_split_3 : decode cX4_split 3 = .ok (.iload_n 2, 1) := dk_28 (dk_at dksX4_split_0 3 rfl rfl)
theorem dX4_split_4 : decode cX4_split 4 = .ok (.invokevirtual 223, 3) := dk_182 0 223 (dk_at dksX4_split_0 4 rfl rfl)
theorem dX4_split_7 : decode cX4_split 7 = .ok (.ifCond .ne 7, 3) := dk_154 0 7 (dk_at dksX4_split_0 7 rfl rfl)
theorem dX4_split_10 : decode cX4_split 10 = .ok (.iconst 1, 1) := dk_4 (dk_at dksX4_split_0 10 rfl rfl)
theorem dX4_split_11 : decode cX4_split 11 = .ok (.goto 17, 3) := dk_167 0 17 (dk_at dksX4_split_0 11 rfl rfl)
theorem dX4_split_14 : decode cX4_split 14 = .ok (.aload_n 0, 1) := dk_42 (dk_at dksX4_split_0 14 rfl rfl)
theorem dX4_split_15 : decode cX4_split 15 = .ok (.invokevirtual 214, 3) := dk_182 0 214 (dk_at dksX4_split_0 15 rfl rfl)
theorem dX4_split_18 : decode cX4_split 18 = .ok (.bipush 12, 2) := dk_16 12 (dk_at dksX4_split_0 18 rfl rfl)
theorem dX4_split_20 : decode cX4_split 20 = .ok (.if_icmp .ne 7, 3) := dk_160 0 7 (dk_at dksX4_split_0 20 rfl rfl)
theorem dX4_split_23 : decode cX4_split 23 = .ok (.iconst 2, 1) := dk_5 (dk_at dksX4_split_0 23 rfl rfl)
theorem dX4_split_24 : decode cX4_split 24 = .ok (.goto 4, 3) := dk_167 0 4 (dk_at dksX4_split_1 0 rfl rfl)
theorem dX4_split_27 : decode cX4_split 27 = .ok (.iconst 0, 1) := dk_3 (dk_at dksX4_split_1 3 rfl rfl)
theorem dX4_split_28 : decode cX4_split 28 = .ok (.putfield 55, 3) := dk_181 0 55 (dk_at dksX4_split_1 4 rfl rfl)
theorem dX4_split_31 : decode cX4_split 31 = .ok (.aload_n 0, 1) := dk_42 (dk_at dksX4_split_1 7 rfl rfl)
theorem dX4_split_32 : decode cX4_split 32 = .ok (.getfield 55, 3) := dk_180 0 55 (dk_at dksX4_split_1 8 rfl rfl)
theorem dX4_split_35 : decode cX4_split 35 = .ok (.ifCond .le 5, 3) := dk_158 0 5 (dk_at dksX4_split_1 11 rfl rfl)
theorem dX4_split_38 : decode cX4_split 38 = .ok (.iconst 0, 1) := dk_3 (dk_at dksX4_split_1 14 rfl rfl)
theorem dX4_split_39 : decode cX4_split 39 = .ok (.ireturn, 1) := dk_172 (dk_at dksX4_split_1 15 rfl rfl)
theorem dX4_split_40 : decode cX4_split 40 = .ok (.aload_n 0, 1) := dk_42 (dk_at dksX4_split_1 16 rfl rfl)
theorem dX4_split_41 : decode cX4_split 41 = .ok (.iload_n 1, 1) := dk_27 (dk_at dksX4_split_1 17 rfl rfl)
theorem dX4_split_42 : decode cX4_split 42 = .ok (.iload_n 2, 1) := dk_28 (dk_at dksX4_split_1 18 rfl rfl)
theorem dX4_split_43 : decode cX4_split 43 = .ok (.invokevirtual 179, 3) := dk_182 0 179 (dk_at dksX4_split_1 19 rfl rfl)
theorem dX4_split_46 : decode cX4_split 46 = .ok (.istore_n 3, 1) := dk_62 (dk_at dksX4_split_1 22 rfl rfl)
theorem dX4_split_47 : decode cX4_split 47 = .ok (.aload_n 0, 1) := dk_42 (dk_at dksX4_split_1 23 rfl rfl)
theorem dX4_split_48 : decode cX4_split 48 = .ok (.iload_n 1, 1) := dk_27 (dk_at dksX4_split_2 0 rfl rfl)
theorem dX4_split_49 : decode cX4_split 49 = .ok (.invokevirtual 194, 3) := dk_182 0 194 (dk_at dksX4_split_2 1 rfl rfl)
theorem dX4_split_52 : decode cX4_split 52 = .ok (.aload_n 0, 1) := dk_42 (dk_at dksX4_split_2 4 rfl rfl)
theorem dX4_split_53 : decode cX4_split 53 = .ok (.iload_n 3, 1) := dk_29 (dk_at dksX4_split_2 5 rfl rfl)
theorem dX4_split_54 : decode cX4_split 54 = .ok (.iconst 0, 1) := dk_3 (dk_at dksX4_split_2 6 rfl rfl)
theorem dX4_split_55 : decode cX4_split 55 = .ok (.invokevirtual 201, 3) := dk_182 0 201 (dk_at dksX4_split_2 7 rfl rfl)
theorem dX4_split_58 : decode cX4_split 58 = .ok (.iconst 1, 1) := dk_4 (dk_at dksX4_split_2 10 rfl rfl)
theorem dX4_split_59 : decode cX4_split 59 = .ok (.if_icmp .ne 19, 3) := dk_160 0 19 (dk_at dksX4_split_2 11 rfl rfl)
theorem dX4_split_62 : decode cX4_split 62 = .ok (.aload_n 0, 1) := dk_42 (dk_at dksX4_split_2 14 rfl rfl)
theorem dX4_split_63 : decode cX4_split 63 = .ok (.iconst 3, 1) := dk_6 (dk_at dksX4_split_2 15 rfl rfl)
theorem dX4_split_64 : decode cX4_split 64 = .ok (.iload_n 1, 1) := dk_27 (dk_at dksX4_split_2 16 rfl rfl)
theorem dX4_split_65 : decode cX4_split 65 = .ok (.bipush 13, 2) := dk_16 13 (dk_at dksX4_split_2 17 rfl rfl)
theorem dX4_split_67 : decode cX4_split 67 = .ok (.iload_n 2, 1) := dk_28 (dk_at dksX4_split_2 19 rfl rfl)
theorem dX4_split_68 : decode cX4_split 68 = .ok (.invokevirtual 141, 3) := dk_182 0 141 (dk_at dksX4_split_2 20 rfl rfl)
theorem dX4_split_71 : decode cX4_split 71 = .ok (.pop, 1) := dk_87 (dk_at dksX4_split_2 23 rfl rfl)
theorem dX4_split_72 : decode cX4_split 72 = .ok (.aload_n 0, 1) := dk_42 (dk_at dksX4_split_3 0 rfl rfl)
theorem dX4_split_73 : decode cX4_split 73 = .ok (.iconst 3, 1) := dk_6 (dk_at dksX4_split_3 1 rfl rfl)
theorem dX4_split_74 : decode cX4_split 74 = .ok (.invokevirtual 122, 3) := dk_182 0 122 (dk_at dksX4_split_3 2 rfl rfl)
theorem dX4_split_77 : decode cX4_split 77 = .ok (.ireturn, 1) := dk_172 (dk_at dksX4_split_3 5 rfl rfl)
theorem dX4_split_78 : decode cX4_split 78 = .ok (.aload_n 0, 1) := dk_42 (dk_at dksX4_split_3 6 rfl rfl)
theorem dX4_split_79 : decode cX4_split 79 = .ok (.invokevirtual 145, 3) := dk_182 0 145 (dk_at dksX4_split_3 7 rfl rfl)
theorem dX4_split_82 : decode cX4_split 82 = .ok (.aload_n 0, 1) := dk_42 (dk_at dksX4_split_3 10 rfl rfl)
theorem dX4_split_83 : decode cX4_split 83 = .ok (.invokevirtual 134, 3) := dk_182 0 134 (dk_at dksX4_split_3 11 rfl rfl)
theorem dX4_split_86 : decode cX4_split 86 = .ok (.istore 4, 2) := dk_54 4 (dk_at dksX4_split_3 14 rfl rfl)
theorem dX4_split_88 : decode cX4_split 88 = .ok (.aload_n 0, 1) := dk_42 (dk_at dksX4_split_3 16 rfl rfl)
theorem dX4_split_89 : decode cX4_split 89 = .ok (.getfield 43, 3) := dk_180 0 43 (dk_at dksX4_split_3 17 rfl rfl)
theorem dX4_split_92 : decode cX4_split 92 = .ok (.iconst 0, 1) := dk_3 (dk_at dksX4_split_3 20 rfl rfl)
theorem dX4_split_93 : decode cX4_split 93 = .ok (.iaload, 1) := dk_46 (dk_at dksX4_split_3 21 rfl rfl)
theorem dX4_split_94 : decode cX4_split 94 = .ok (.istore 5, 2) := dk_54 5 (dk_at dksX4_split_3 22 rfl rfl)
theorem dX4_split_96 : decode cX4_split 96 = .ok (.iconst 0, 1) := dk_3 (dk_at dksX4_split_4 0 rfl rfl)
theorem dX4_split_97 : decode cX4_split 97 = .ok (.istore 6, 2) := dk_54 6 (dk_at dksX4_split_4 1 rfl rfl)
theorem dX4_split_99 : decode cX4_split 99 = .ok (.iload 6, 2) := dk_21 6 (dk_at dksX4_split_4 3 rfl rfl)
theorem dX4_split_101 : decode cX4_split 101 = .ok (.aload_n 0, 1) := dk_42 (dk_at dksX4_split_4 5 rfl rfl)
theorem dX4_split_102 : decode cX4_split 102 = .ok (.getfield 182, 3) := dk_180 0 182 (dk_at dksX4_split_4 6 rfl rfl)
theorem dX4_split_105 : decode cX4_split 105 = .ok (.if_icmp .ge 48, 3) := dk_162 0 48 (dk_at dksX4_split_4 9 rfl rfl)
theorem dX4_split_108 : decode cX4_split 108 = .ok (.aload_n 0, 1) := dk_42 (dk_at dksX4_split_4 12 rfl rfl)
theorem dX4_split_109 : decode cX4_split 109 = .ok (.getfield 9, 3) := dk_180 0 9 (dk_at dksX4_split_4 13 rfl rfl)
theorem dX4_split_112 : decode cX4_split 112 = .ok (.bipush 43, 2) := dk_16 43 (dk_at dksX4_split_4 16 rfl rfl)
theorem dX4_split_114 : decode cX4_split 114 = .ok (.aload_n 0, 1) := dk_42 (dk_at dksX4_split_4 18 rfl rfl)
theorem dX4_split_115 : decode cX4_split 115 = .ok (.getfield 43, 3) := dk_180 0 43 (dk_at dksX4_split_4 19 rfl rfl)
theorem dX4_split_118 : decode cX4_split 118 = .ok (.iload 6, 2) := dk_21 6 (dk_at dksX4_split_4 22 rfl rfl)
theorem dX4_split_120 : decode cX4_split 120 = .ok (.iaload, 1) := dk_46 (dk_at dksX4_split_5 0 rfl rfl)
theorem dX4_split_121 : decode cX4_split 121 = .ok (.iadd, 1) := dk_96 (dk_at dksX4_split_5 1 rfl rfl)
theorem dX4_split_122 : decode cX4_split 122 = .ok (.aload_n 0, 1) := dk_42 (dk_at dksX4_split_5 2 rfl rfl)
theorem dX4_split_123 : decode cX4_split 123 = .ok (.iload 5, 2) := dk_21 5 (dk_at dksX4_split_5 3 rfl rfl)
theorem dX4_split_125 : decode cX4_split 125 = .ok (.iload_n 3, 1) := dk_29 (dk_at dksX4_split_5 5 rfl rfl)
theorem dX4_split_126 : decode cX4_split 126 = .ok (.aload_n 0, 1) := dk_42 (dk_at dksX4_split_5 6 rfl rfl)
theorem dX4_split_127 : decode cX4_split 127 = .ok (.getfield 43, 3) := dk_180 0 43 (dk_at dksX4_split_5 7 rfl rfl)
theorem dX4_split_130 : decode cX4_split 130 = .ok (.iload 6, 2) := dk_21 6 (dk_at dksX4_split_5 10 rfl rfl)
theorem dX4_split_132 : decode cX4_split 132 = .ok (.iaload, 1) := dk_46 (dk_at dksX4_split_5 12 rfl rfl)
theorem dX4_split_133 : decode cX4_split 133 = .ok (.iload_n 3, 1) := dk_29 (dk_at dksX4_split_5 13 rfl rfl)
theorem dX4_split_134 : decode cX4_split 134 = .ok (.invokevirtual 100, 3) := dk_182 0 100 (dk_at dksX4_split_5 14 rfl rfl)
theorem dX4_split_137 : decode cX4_split 137 = .ok (.ifCond .eq 8, 3) := dk_153 0 8 (dk_at dksX4_split_5 17 rfl rfl)
theorem dX4_split_140 : decode cX4_split 140 = .ok (.iload 4, 2) := dk_21 4 (dk_at dksX4_split_5 20 rfl rfl)
theorem dX4_split_142 : decode cX4_split 142 = .ok (.goto 4, 3) := dk_167 0 4 (dk_at dksX4_split_6 0 rfl rfl)
theorem dX4_split_145 : decode cX4_split 145 = .ok (.iload_n 1, 1) := dk_27 (dk_at dksX4_split_6 3 rfl rfl)
theorem dX4_split_146 : decode cX4_split 146 = .ok (.iastore, 1) := dk_79 (dk_at dksX4_split_6 4 rfl rfl)
theorem dX4_split_147 : decode cX4_split 147 = .ok (.iinc 6 1, 3) := dk_132 6 1 (dk_at dksX4_split_6 5 rfl rfl)
theorem dX4_split_150 : decode cX4_split 150 = .ok (.goto (-51), 3) := dk_167 255 205 (dk_at dksX4_split_6 8 rfl rfl)
theorem dX4_split_153 : decode cX4_split 153 = .ok (.aload_n 0, 1) := dk_42 (dk_at dksX4_split_6 11 rfl rfl)
theorem dX4_split_154 : decode cX4_split 154 = .ok (.iload_n 1, 1) := dk_27 (dk_at dksX4_split_6 12 rfl rfl)
theorem dX4_split_155 : decode cX4_split 155 = .ok (.invokevirtual 237, 3) := dk_182 0 237 (dk_at dksX4_split_6 13 rfl rfl)
theorem dX4_split_158 : decode cX4_split 158 = .ok (.aload_n 0, 1) := dk_42 (dk_at dksX4_split_6 16 rfl rfl)
theorem dX4_split_159 : decode cX4_split 159 = .ok (.iload 4, 2) := dk_21 4 (dk_at dksX4_split_6 17 rfl rfl)
theorem dX4_split_161 : decode cX4_split 161 = .ok (.invokevirtual 237, 3) := dk_182 0 237 (dk_at dksX4_split_6 19 rfl rfl)
theorem dX4_split_164 : decode cX4_split 164 = .ok (.iload 4, 2) := dk_21 4 (dk_at dksX4_split_6 22 rfl rfl)
theorem dX4_split_166 : decode cX4_split 166 = .ok (.ireturn, 1) := dk_172 (dk_at dksX4_split_7 0 rfl rfl)
abbrev cX4_slotsAnew : ByteArray := prog_17_method_71_code
def yX4_slotsAnew : MethodName := ⟨RX4, "slotsAnew", "(I)V"⟩
def dkwX4_slotsAnew_3 : List UInt8 := [16, 20, 27, 104, 96, 28, 96, 29, 79, 132, 2, 1, 167, 255, 181, 177]
abbrev dktX4_slotsAnew_3 : List UInt8 := dkwX4_slotsAnew_3 ++ []
def dkwX4_slotsAnew_2 : List UInt8 := [180, 0, 43, 21, 4, 46, 28, 182, 0, 111, 62, 132, 4, 1, 167, 255, 223, 42, 180, 0, 9, 17, 6, 188]
abbrev dktX4_slotsAnew_2 : List UInt8 := dkwX4_slotsAnew_2 ++ dktX4_slotsAnew_3
def dkwX4_slotsAnew_1 : List UInt8 := [4, 54, 4, 21, 4, 42, 180, 0, 182, 162, 0, 30, 42, 29, 42, 180, 0, 43, 3, 46, 2, 42]
abbrev dktX4_slotsAnew_1 : List UInt8 := dkwX4_slotsAnew_1 ++ dktX4_slotsAnew_2
def dkwX4_slotsAnew_0 : List UInt8 := [42, 27, 182, 0, 194, 3, 61, 28, 42, 180, 0, 22, 42, 180, 0, 43, 3, 46, 46, 162, 0, 66, 2, 62]
abbrev dktX4_slotsAnew_0 : List UInt8 := dkwX4_slotsAnew_0 ++ dktX4_slotsAnew_1
theorem dksX4_slotsAnew_0 : cX4_slotsAnew.data.toList.drop 0 = dktX4_slotsAnew_0 := by decide +kernel
theorem dksX4_slotsAnew_1 : cX4_slotsAnew.data.toList.drop 24 = dktX4_slotsAnew_1 := dk_seg dksX4_slotsAnew_0 24 rfl rfl
theorem dksX4_slotsAnew_2 : cX4_slotsAnew.data.toList.drop 46 = dktX4_slotsAnew_2 := dk_seg dksX4_slotsAnew_1 22 rfl rfl
theorem dksX4_slotsAnew_3 : cX4_slotsAnew.data.toList.drop 70 = dktX4_slotsAnew_3 := dk_seg dksX4_slotsAnew_2 24 rfl rfl
theorem dX4_slotsAnew_0 : decode cX4_slotsAnew 0 = .ok (.aload_n 0, 1) := dk_42 (dk_at dksX4_slotsAnew_0 0 rfl rfl)
theorem dX4_slotsAnew_1 : decode cX4_slotsAnew 1 = .ok (.iload_n 1, 1) := dk_27 (dk_at dksX4_slotsAnew_0 1 rfl rfl)
theorem dX4_slotsAnew_2 : decode cX4_slotsAnew 2 = .ok (.invokevirtual 194, 3) := dk_182 0 194 (dk_at dksX4_slotsAnew_0 2 rfl rfl)
theorem dX4_slotsAnew_5 : decode cX4_slotsAnew 5 = .ok (.iconst 0, 1) := dk_3 (dk_at dksX4_slotsAnew_0 5 rfl rfl)
theorem dX4_slotsAnew_6 : decode cX4_slotsAnew 6 = .ok (.istore_n 2, 1) := dk_61 (dk_at dksX4_slotsAnew_0 6 rfl rfl)
theorem dX4_slotsAnew_7 : decode cX4_slotsAnew 7 = .ok (.iload_n 2, 1) := dk_28 (dk_at dksX4_slotsAnew_0 7 rfl rfl)
theorem dX4_slotsAnew_8 : decode cX4_slotsAnew 8 = .ok (.aload_n 0, 1) := dk_42 (dk_at dksX4_slotsAnew_0 8 rfl rfl)
theorem dX4_slotsAnew_9 : decode cX4_slotsAnew 9 = .ok (.getfield 22, 3) := dk_180 0 22 (dk_at dksX4_slotsAnew_0 9 rfl rfl)
theorem dX4_slotsAnew_12 : decode cX4_slotsAnew 12 = .ok (.aload_n 0, 1) := dk_42 (dk_at dksX4_slotsAnew_0 12 rfl rfl)
theorem dX4_slotsAnew_13 : decode cX4_slotsAnew 13 = .ok (.getfield 43, 3) := dk_180 0 43 (dk_at dksX4_slotsAnew_0 13 rfl rfl)
theorem dX4_slotsAnew_16 : decode cX4_slotsAnew 16 = .ok (.iconst 0, 1) := dk_3 (dk_at dksX4_slotsAnew_0 16 rfl rfl)
theorem dX4_slotsAnew_17 : decode cX4_slotsAnew 17 = .ok (.iaload, 1) := dk_46 (dk_at dksX4_slotsAnew_0 17 rfl rfl)
theorem dX4_slotsAnew_18 : decode cX4_slotsAnew 18 = .ok (.iaload, 1) := dk_46 (dk_at dksX4_slotsAnew_0 18 rfl rfl)
theorem dX4_slotsAnew_19 : decode cX4_slotsAnew 19 = .ok (.if_icmp .ge 66, 3) := dk_162 0 66 (dk_at dksX4_slotsAnew_0 19 rfl rfl)
theorem dX4_slotsAnew_22 : decode cX4_slotsAnew 22 = .ok (.iconst (-1), 1) := dk_2 (dk_at dksX4_slotsAnew_0 22 rfl rfl)
theorem dX4_slotsAnew_23 : decode cX4_slotsAnew 23 = .ok (.istore_n 3, 1) := dk_62 (dk_at dksX4_slotsAnew_0 23 rfl rfl)
theorem dX4_slotsAnew_24 : decode cX4_slotsAnew 24 = .ok (.iconst 1, 1) := dk_4 (dk_at dksX4_slotsAnew_1 0 rfl rfl)
theorem dX4_slotsAnew_25 : decode cX4_slotsAnew 25 = .ok (.istore 4, 2) := dk_54 4 (dk_at dksX4_slotsAnew_1 1 rfl rfl)
theorem dX4_slotsAnew_27 : decode cX4_slotsAnew 27 = .ok (.iload 4, 2) := dk_21 4 (dk_at dksX4_slotsAnew_1 3 rfl rfl)
theorem dX4_slotsAnew_29 : decode cX4_slotsAnew 29 = .ok (.aload_n 0, 1) := dk_42 (dk_at dksX4_slotsAnew_1 5 rfl rfl)
theorem dX4_slotsAnew_30 : decode cX4_slotsAnew 30 = .ok (.getfield 182, 3) := dk_180 0 182 (dk_at dksX4_slotsAnew_1 6 rfl rfl)
theorem dX4_slotsAnew_33 : decode cX4_slotsAnew 33 = .ok (.if_icmp .ge 30, 3) := dk_162 0 30 (dk_at dksX4_slotsAnew_1 9 rfl rfl)
theorem dX4_slotsAnew_36 : decode cX4_slotsAnew 36 = .ok (.aload_n 0, 1) := dk_42 (dk_at dksX4_slotsAnew_1 12 rfl rfl)
theorem dX4_slotsAnew_37 : decode cX4_slotsAnew 37 = .ok (.iload_n 3, 1) := dk_29 (dk_at dksX4_slotsAnew_1 13 rfl rfl)
theorem dX4_slotsAnew_38 : decode cX4_slotsAnew 38 = .ok (.aload_n 0, 1) := dk_42 (dk_at dksX4_slotsAnew_1 14 rfl rfl)
theorem dX4_slotsAnew_39 : decode cX4_slotsAnew 39 = .ok (.getfield 43, 3) := dk_180 0 43 (dk_at dksX4_slotsAnew_1 15 rfl rfl)
theorem dX4_slotsAnew_42 : decode cX4_slotsAnew 42 = .ok (.iconst 0, 1) := dk_3 (dk_at dksX4_slotsAnew_1 18 rfl rfl)
theorem dX4_slotsAnew_43 : decode cX4_slotsAnew 43 = .ok (.iaload, 1) := dk_46 (dk_at dksX4_slotsAnew_1 19 rfl rfl)
theorem dX4_slotsAnew_44 : decode cX4_slotsAnew 44 = .ok (.iconst (-1), 1) := dk_2 (dk_at dksX4_slotsAnew_1 20 rfl rfl)
theorem dX4_slotsAnew_45 : decode cX4_slotsAnew 45 = .ok (.aload_n 0, 1) := dk_42 (dk_at dksX4_slotsAnew_1 21 rfl rfl)
theorem dX4_slotsAnew_46 : decode cX4_slotsAnew 46 = .ok (.getfield 43, 3) := dk_180 0 43 (dk_at dksX4_slotsAnew_2 0 rfl rfl)
theorem dX4_slotsAnew_49 : decode cX4_slotsAnew 49 = .ok (.iload 4, 2) := dk_21 4 (dk_at dksX4_slotsAnew_2 3 rfl rfl)
theorem dX4_slotsAnew_51 : decode cX4_slotsAnew 51 = .ok (.iaload, 1) := dk_46 (dk_at dksX4_slotsAnew_2 5 rfl rfl)
theorem dX4_slotsAnew_52 : decode cX4_slotsAnew 52 = .ok (.iload_n 2, 1) := dk_28 (dk_at dksX4_slotsAnew_2 6 rfl rfl)
theorem dX4_slotsAnew_53 : decode cX4_slotsAnew 53 = .ok (.invokevirtual 111, 3) := dk_182 0 111 (dk_at dksX4_slotsAnew_2 7 rfl rfl)
theorem dX4_slotsAnew_56 : decode cX4_slotsAnew 56 = .ok (.istore_n 3, 1) := dk_62 (dk_at dksX4_slotsAnew_2 10 rfl rfl)
theorem dX4_slotsAnew_57 : decode cX4_slotsAnew 57 = .ok (.iinc 4 1, 3) := dk_132 4 1 (dk_at dksX4_slotsAnew_2 11 rfl rfl)
theorem dX4_slotsAnew_60 : decode cX4_slotsAnew 60 = .ok (.goto (-33), 3) := dk_167 255 223 (dk_at dksX4_slotsAnew_2 14 rfl rfl)
theorem dX4_slotsAnew_63 : decode cX4_slotsAnew 63 = .ok (.aload_n 0, 1) := dk_42 (dk_at dksX4_slotsAnew_2 17 rfl rfl)
theorem dX4_slotsAnew_64 : decode cX4_slotsAnew 64 = .ok (.getfield 9, 3) := dk_180 0 9 (dk_at dksX4_slotsAnew_2 18 rfl rfl)
theorem dX4_slotsAnew_67 : decode cX4_slotsAnew 67 = .ok (.sipush 1724, 3) := dk_17 6 188 (dk_at dksX4_slotsAnew_2 21 rfl rfl)
theorem dX4_slotsAnew_70 : decode cX4_slotsAnew 70 = .ok (.bipush 20, 2) := dk_16 20 (dk_at dksX4_slotsAnew_3 0 rfl rfl)
theorem dX4_slotsAnew_72 : decode cX4_slotsAnew 72 = .ok (.iload_n 1, 1) := dk_27 (dk_at dksX4_slotsAnew_3 2 rfl rfl)
theorem dX4_slotsAnew_73 : decode cX4_slotsAnew 73 = .ok (.imul, 1) := dk_104 (dk_at dksX4_slotsAnew_3 3 rfl rfl)
theorem dX4_slotsAnew_74 : decode cX4_slotsAnew 74 = .ok (.iadd, 1) := dk_96 (dk_at dksX4_slotsAnew_3 4 rfl rfl)
theorem dX4_slotsAnew_75 : decode cX4_slotsAnew 75 = .ok (.iload_n 2, 1) := dk_28 (dk_at dksX4_slotsAnew_3 5 rfl rfl)
theorem dX4_slotsAnew_76 : decode cX4_slotsAnew 76 = .ok (.iadd, 1) := dk_96 (dk_at dksX4_slotsAnew_3 6 rfl rfl)
theorem dX4_slotsAnew_77 : decode cX4_slotsAnew 77 = .ok (.iload_n 3, 1) := dk_29 (dk_at dksX4_slotsAnew_3 7 rfl rfl)
theorem dX4_slotsAnew_78 : decode cX4_slotsAnew 78 = .ok (.iastore, 1) := dk_79 (dk_at dksX4_slotsAnew_3 8 rfl rfl)
theorem dX4_slotsAnew_79 : decode cX4_slotsAnew 79 = .ok (.iinc 2 1, 3) := dk_132 2 1 (dk_at dksX4_slotsAnew_3 9 rfl rfl)
theorem dX4_slotsAnew_82 : decode cX4_slotsAnew 82 = .ok (.goto (-75), 3) := dk_167 255 181 (dk_at dksX4_slotsAnew_3 12 rfl rfl)
theorem dX4_slotsAnew_85 : decode cX4_slotsAnew 85 = .ok (.return_, 1) := dk_177 (dk_at dksX4_slotsAnew_3 15 rfl rfl)
abbrev cX4_gain : ByteArray := prog_17_method_74_code
def yX4_gain : MethodName := ⟨RX4, "gain", "(II)I"⟩
def dkwX4_gain_3 : List UInt8 := [28, 184, 0, 226, 27, 28, 184, 0, 231, 182, 0, 240, 172]
abbrev dktX4_gain_3 : List UInt8 := dkwX4_gain_3 ++ []
def dkwX4_gain_2 : List UInt8 := [154, 0, 7, 6, 167, 0, 4, 3, 181, 0, 55, 42, 180, 0, 55, 158, 0, 7, 3, 167, 0, 17, 42, 27]
abbrev dktX4_gain_2 : List UInt8 := dkwX4_gain_2 ++ dktX4_gain_3
def dkwX4_gain_1 : List UInt8 := [160, 0, 7, 5, 167, 0, 27, 42, 42, 27, 3, 182, 0, 88, 42, 28, 3, 182, 0, 88, 182, 0, 104]
abbrev dktX4_gain_1 : List UInt8 := dkwX4_gain_1 ++ dktX4_gain_2
def dkwX4_gain_0 : List UInt8 := [42, 42, 27, 182, 0, 91, 153, 0, 11, 42, 28, 182, 0, 91, 154, 0, 7, 4, 167, 0, 36, 27, 28]
abbrev dktX4_gain_0 : List UInt8 := dkwX4_gain_0 ++ dktX4_gain_1
theorem dksX4_gain_0 : cX4_gain.data.toList.drop 0 = dktX4_gain_0 := by decide +kernel
theorem dksX4_gain_1 : cX4_gain.data.toList.drop 23 = dktX4_gain_1 := dk_seg dksX4_gain_0 23 rfl rfl
theorem dksX4_gain_2 : cX4_gain.data.toList.drop 46 = dktX4_gain_2 := dk_seg dksX4_gain_1 23 rfl rfl
theorem dksX4_gain_3 : cX4_gain.data.toList.drop 70 = dktX4_gain_3 := dk_seg dksX4_gain_2 24 rfl rfl
theorem dX4_gain_0 : decode cX4_gain 0 = .ok (.aload_n 0, 1) := dk_42 (dk_at dksX4_gain_0 0 rfl rfl)
theorem dX4_gain_1 : decode cX4_gain 1 = .ok (.aload_n 0, 1) := dk_42 (dk_at dksX4_gain_0 1 rfl rfl)
theorem dX4_gain_2 : decode cX4_gain 2 = .ok (.iload_n 1, 1) := dk_27 (dk_at dksX4_gain_0 2 rfl rfl)
theorem dX4_gain_3 : decode cX4_gain 3 = .ok (.invokevirtual 91, 3) := dk_182 0 91 (dk_at dksX4_gain_0 3 rfl rfl)
theorem dX4_gain_6 : decode cX4_gain 6 = .ok (.ifCond .eq 11, 3) := dk_153 0 11 (dk_at dksX4_gain_0 6 rfl rfl)
theorem dX4_gain_9 : decode cX4_gain 9 = .ok (.aload_n 0, 1) := dk_42 (dk_at dksX4_gain_0 9 rfl rfl)
theorem dX4_gain_10 : decode cX4_gain 10 = .ok (.iload_n 2, 1) := dk_28 (dk_at dksX4_gain_0 10 rfl rfl)
theorem dX4_gain_11 : decode cX4_gain 11 = .ok (.invokevirtual 91, 3) := dk_182 0 91 (dk_at dksX4_gain_0 11 rfl rfl)
theorem dX4_gain_14 : decode cX4_gain 14 = .ok (.ifCond .ne 7, 3) := dk_154 0 7 (dk_at dksX4_gain_0 14 rfl rfl)
theorem dX4_gain_17 : decode cX4_gain 17 = .ok (.iconst 1, 1) := dk_4 (dk_at dksX4_gain_0 17 rfl rfl)
theorem dX4_gain_18 : decode cX4_gain 18 = .ok (.goto 36, 3) := dk_167 0 36 (dk_at dksX4_gain_0 18 rfl rfl)
theorem dX4_gain_21 : decode cX4_gain 21 = .ok (.iload_n 1, 1) := dk_27 (dk_at dksX4_gain_0 21 rfl rfl)
theorem dX4_gain_22 : decode cX4_gain 22 = .ok (.iload_n 2, 1) := dk_28 (dk_at dksX4_gain_0 22 rfl rfl)
theorem dX4_gain_23 : decode cX4_gain 23 = .ok (.if_icmp .ne 7, 3) := dk_160 0 7 (dk_at dksX4_gain_1 0 rfl rfl)
theorem dX4_gain_26 : decode cX4_gain 26 = .ok (.iconst 2, 1) := dk_5 (dk_at dksX4_gain_1 3 rfl rfl)
theorem dX4_gain_27 : decode cX4_gain 27 = .ok (.goto 27, 3) := dk_167 0 27 (dk_at dksX4_gain_1 4 rfl rfl)
theorem dX4_gain_30 : decode cX4_gain 30 = .ok (.aload_n 0, 1) := dk_42 (dk_at dksX4_gain_1 7 rfl rfl)
theorem dX4_gain_31 : decode cX4_gain 31 = .ok (.aload_n 0, 1) := dk_42 (dk_at dksX4_gain_1 8 rfl rfl)
theorem dX4_gain_32 : decode cX4_gain 32 = .ok (.iload_n 1, 1) := dk_27 (dk_at dksX4_gain_1 9 rfl rfl)
theorem dX4_gain_33 : decode cX4_gain 33 = .ok (.iconst 0, 1) := dk_3 (dk_at dksX4_gain_1 10 rfl rfl)
theorem dX4_gain_34 : decode cX4_gain 34 = .ok (.invokevirtual 88, 3) := dk_182 0 88 (dk_at dksX4_gain_1 11 rfl rfl)
theorem dX4_gain_37 : decode cX4_gain 37 = .ok (.aload_n 0, 1) := dk_42 (dk_at dksX4_gain_1 14 rfl rfl)
theorem dX4_gain_38 : decode cX4_gain 38 = .ok (.iload_n 2, 1) := dk_28 (dk_at dksX4_gain_1 15 rfl rfl)
theorem dX4_gain_39 : decode cX4_gain 39 = .ok (.iconst 0, 1) := dk_3 (dk_at dksX4_gain_1 16 rfl rfl)
theorem dX4_gain_40 : decode cX4_gain 40 = .ok (.invokevirtual 88, 3) := dk_182 0 88 (dk_at dksX4_gain_1 17 rfl rfl)
theorem dX4_gain_43 : decode cX4_gain 43 = .ok (.invokevirtual 104, 3) := dk_182 0 104 (dk_at dksX4_gain_1 20 rfl rfl)
theorem dX4_gain_46 : decode cX4_gain 46 = .ok (.ifCond .ne 7, 3) := dk_154 0 7 (dk_at dksX4_gain_2 0 rfl rfl)
theorem dX4_gain_49 : decode cX4_gain 49 = .ok (.iconst 3, 1) := dk_6 (dk_at dksX4_gain_2 3 rfl rfl)
theorem dX4_gain_50 : decode cX4_gain 50 = .ok (.goto 4, 3) := dk_167 0 4 (dk_at dksX4_gain_2 4 rfl rfl)
theorem dX4_gain_53 : decode cX4_gain 53 = .ok (.iconst 0, 1) := dk_3 (dk_at dksX4_gain_2 7 rfl rfl)
theorem dX4_gain_54 : decode cX4_gain 54 = .ok (.putfield 55, 3) := dk_181 0 55 (dk_at dksX4_gain_2 8 rfl rfl)
theorem dX4_gain_57 : decode cX4_gain 57 = .ok (.aload_n 0, 1) := dk_42 (dk_at dksX4_gain_2 11 rfl rfl)
theorem dX4_gain_58 : decode cX4_gain 58 = .ok (.getfield 55, 3) := dk_180 0 55 (dk_at dksX4_gain_2 12 rfl rfl)
theorem dX4_gain_61 : decode cX4_gain 61 = .ok (.ifCond .le 7, 3) := dk_158 0 7 (dk_at dksX4_gain_2 15 rfl rfl)
theorem dX4_gain_64 : decode cX4_gain 64 = .ok (.iconst 0, 1) := dk_3 (dk_at dksX4_gain_2 18 rfl rfl)
theorem dX4_gain_65 : decode cX4_gain 65 = .ok (.goto 17, 3) := dk_167 0 17 (dk_at dksX4_gain_2 19 rfl rfl)
theorem dX4_gain_68 : decode cX4_gain 68 = .ok (.aload_n 0, 1) := dk_42 (dk_at dksX4_gain_2 22 rfl rfl)
theorem dX4_gain_69 : decode cX4_gain 69 = .ok (.iload_n 1, 1) := dk_27 (dk_at dksX4_gain_2 23 rfl rfl)
theorem dX4_gain_70 : decode cX4_gain 70 = .ok (.iload_n 2, 1) := dk_28 (dk_at dksX4_gain_3 0 rfl rfl)
theorem dX4_gain_71 : decode cX4_gain 71 = .ok (.invokestatic 226, 3) := dk_184 0 226 (dk_at dksX4_gain_3 1 rfl rfl)
theorem dX4_gain_74 : decode cX4_gain 74 = .ok (.iload_n 1, 1) := dk_27 (dk_at dksX4_gain_3 4 rfl rfl)
theorem dX4_gain_75 : decode cX4_gain 75 = .ok (.iload_n 2, 1) := dk_28 (dk_at dksX4_gain_3 5 rfl rfl)
theorem dX4_gain_76 : decode cX4_gain 76 = .ok (.invokestatic 231, 3) := dk_184 0 231 (dk_at dksX4_gain_3 6 rfl rfl)
theorem dX4_gain_79 : decode cX4_gain 79 = .ok (.invokevirtual 240, 3) := dk_182 0 240 (dk_at dksX4_gain_3 9 rfl rfl)
theorem dX4_gain_82 : decode cX4_gain 82 = .ok (.ireturn, 1) := dk_172 (dk_at dksX4_gain_3 12 rfl rfl)
abbrev cX4_gainOf : ByteArray := prog_17_method_73_code
def yX4_gainOf : MethodName := ⟨RX4, "gainOf", "(II)I"⟩
def dkwX4_gainOf_3 : List UInt8 := [132, 5, 1, 167, 255, 231, 29, 21, 4, 100, 172]
abbrev dktX4_gainOf_3 : List UInt8 := dkwX4_gainOf_3 ++ []
def dkwX4_gainOf_2 : List UInt8 := [21, 5, 17, 7, 172, 162, 0, 23, 42, 180, 0, 9, 21, 5, 42, 180, 0, 16, 21, 5, 46, 79]
abbrev dktX4_gainOf_2 : List UInt8 := dkwX4_gainOf_2 ++ dktX4_gainOf_3
def dkwX4_gainOf_1 : List UInt8 := [167, 255, 234, 42, 182, 0, 220, 62, 42, 27, 28, 182, 0, 234, 42, 182, 0, 220, 54, 4, 3, 54, 5]
abbrev dktX4_gainOf_1 : List UInt8 := dkwX4_gainOf_1 ++ dktX4_gainOf_2
def dkwX4_gainOf_0 : List UInt8 := [3, 62, 29, 17, 7, 172, 162, 0, 21, 42, 180, 0, 16, 29, 42, 180, 0, 9, 29, 46, 79, 132, 3, 1]
abbrev dktX4_gainOf_0 : List UInt8 := dkwX4_gainOf_0 ++ dktX4_gainOf_1
theorem dksX4_gainOf_0 : cX4_gainOf.data.toList.drop 0 = dktX4_gainOf_0 := by decide +kernel
theorem dksX4_gainOf_1 : cX4_gainOf.data.toList.drop 24 = dktX4_gainOf_1 := dk_seg dksX4_gainOf_0 24 rfl rfl
theorem dksX4_gainOf_2 : cX4_gainOf.data.toList.drop 47 = dktX4_gainOf_2 := dk_seg dksX4_gainOf_1 23 rfl rfl
theorem dksX4_gainOf_3 : cX4_gainOf.data.toList.drop 69 = dktX4_gainOf_3 := dk_seg dksX4_gainOf_2 22 rfl rfl
theorem dX4_gainOf_0 : decode cX4_gainOf 0 = .ok (.iconst 0, 1) := dk_3 (dk_at dksX4_gainOf_0 0 rfl rfl)
theorem dX4_gainOf_1 : decode cX4_gainOf 1 = .ok (.istore_n 3, 1) := dk_62 (dk_at dksX4_gainOf_0 1 rfl rfl)
theorem dX4_gainOf_2 : decode cX4_gainOf 2 = .ok (.iload_n 3, 1) := dk_29 (dk_at dksX4_gainOf_0 2 rfl rfl)
theorem dX4_gainOf_3 : decode cX4_gainOf 3 = .ok (.sipush 1964, 3) := dk_17 7 172 (dk_at dksX4_gainOf_0 3 rfl rfl)
theorem dX4_gainOf_6 : decode cX4_gainOf 6 = .ok (.if_icmp .ge 21, 3) := dk_162 0 21 (dk_at dksX4_gainOf_0 6 rfl rfl)
theorem dX4_gainOf_9 : decode cX4_gainOf 9 = .ok (.aload_n 0, 1) := dk_42 (dk_at dksX4_gainOf_0 9 rfl rfl)
theorem dX4_gainOf_10 : decode cX4_gainOf 10 = .ok (.getfield 16, 3) := dk_180 0 16 (dk_at dksX4_gainOf_0 10 rfl rfl)
theorem dX4_gainOf_13 : decode cX4_gainOf 13 = .ok (.iload_n 3, 1) := dk_29 (dk_at dksX4_gainOf_0 13 rfl rfl)
theorem dX4_gainOf_14 : decode cX4_gainOf 14 = .ok (.aload_n 0, 1) := dk_42 (dk_at dksX4_gainOf_0 14 rfl rfl)
theorem dX4_gainOf_15 : decode cX4_gainOf 15 = .ok (.getfield 9, 3) := dk_180 0 9 (dk_at dksX4_gainOf_0 15 rfl rfl)
theorem dX4_gainOf_18 : decode cX4_gainOf 18 = .ok (.iload_n 3, 1) := dk_29 (dk_at dksX4_gainOf_0 18 rfl rfl)
theorem dX4_gainOf_19 : decode cX4_gainOf 19 = .ok (.iaload, 1) := dk_46 (dk_at dksX4_gainOf_0 19 rfl rfl)
theorem dX4_gainOf_20 : decode cX4_gainOf 20 = .ok (.iastore, 1) := dk_79 (dk_at dksX4_gainOf_0 20 rfl rfl)
theorem dX4_gainOf_21 : decode cX4_gainOf 21 = .ok (.iinc 3 1, 3) := dk_132 3 1 (dk_at dksX4_gainOf_0 21 rfl rfl)
theorem dX4_gainOf_24 : decode cX4_gainOf 24 = .ok (.goto (-22), 3) := dk_167 255 234 (dk_at dksX4_gainOf_1 0 rfl rfl)
theorem dX4_gainOf_27 : decode cX4_gainOf 27 = .ok (.aload_n 0, 1) := dk_42 (dk_at dksX4_gainOf_1 3 rfl rfl)
theorem dX4_gainOf_28 : decode cX4_gainOf 28 = .ok (.invokevirtual 220, 3) := dk_182 0 220 (dk_at dksX4_gainOf_1 4 rfl rfl)
theorem dX4_gainOf_31 : decode cX4_gainOf 31 = .ok (.istore_n 3, 1) := dk_62 (dk_at dksX4_gainOf_1 7 rfl rfl)
theorem dX4_gainOf_32 : decode cX4_gainOf 32 = .ok (.aload_n 0, 1) := dk_42 (dk_at dksX4_gainOf_1 8 rfl rfl)
theorem dX4_gainOf_33 : decode cX4_gainOf 33 = .ok (.iload_n 1, 1) := dk_27 (dk_at dksX4_gainOf_1 9 rfl rfl)
theorem dX4_gainOf_34 : decode cX4_gainOf 34 = .ok (.iload_n 2, 1) := dk_28 (dk_at dksX4_gainOf_1 10 rfl rfl)
theorem dX4_gainOf_35 : decode cX4_gainOf 35 = .ok (.invokevirtual 234, 3) := dk_182 0 234 (dk_at dksX4_gainOf_1 11 rfl rfl)
theorem dX4_gainOf_38 : decode cX4_gainOf 38 = .ok (.aload_n 0, 1) := dk_42 (dk_at dksX4_gainOf_1 14 rfl rfl)
theorem dX4_gainOf_39 : decode cX4_gainOf 39 = .ok (.invokevirtual 220, 3) := dk_182 0 220 (dk_at dksX4_gainOf_1 15 rfl rfl)
theorem dX4_gainOf_42 : decode cX4_gainOf 42 = .ok (.istore 4, 2) := dk_54 4 (dk_at dksX4_gainOf_1 18 rfl rfl)
theorem dX4_gainOf_44 : decode cX4_gainOf 44 = .ok (.iconst 0, 1) := dk_3 (dk_at dksX4_gainOf_1 20 rfl rfl)
theorem dX4_gainOf_45 : decode cX4_gainOf 45 = .ok (.istore 5, 2) := dk_54 5 (dk_at dksX4_gainOf_1 21 rfl rfl)
theorem dX4_gainOf_47 : decode cX4_gainOf 47 = .ok (.iload 5, 2) := dk_21 5 (dk_at dksX4_gainOf_2 0 rfl rfl)
theorem dX4_gainOf_49 : decode cX4_gainOf 49 = .ok (.sipush 1964, 3) := dk_17 7 172 (dk_at dksX4_gainOf_2 2 rfl rfl)
theorem dX4_gainOf_52 : decode cX4_gainOf 52 = .ok (.if_icmp .ge 23, 3) := dk_162 0 23 (dk_at dksX4_gainOf_2 5 rfl rfl)
theorem dX4_gainOf_55 : decode cX4_gainOf 55 = .ok (.aload_n 0, 1) := dk_42 (dk_at dksX4_gainOf_2 8 rfl rfl)
theorem dX4_gainOf_56 : decode cX4_gainOf 56 = .ok (.getfield 9, 3) := dk_180 0 9 (dk_at dksX4_gainOf_2 9 rfl rfl)
theorem dX4_gainOf_59 : decode cX4_gainOf 59 = .ok (.iload 5, 2) := dk_21 5 (dk_at dksX4_gainOf_2 12 rfl rfl)
theorem dX4_gainOf_61 : decode cX4_gainOf 61 = .ok (.aload_n 0, 1) := dk_42 (dk_at dksX4_gainOf_2 14 rfl rfl)
theorem dX4_gainOf_62 : decode cX4_gainOf 62 = .ok (.getfield 16, 3) := dk_180 0 16 (dk_at dksX4_gainOf_2 15 rfl rfl)
theorem dX4_gainOf_65 : decode cX4_gainOf 65 = .ok (.iload 5, 2) := dk_21 5 (dk_at dksX4_gainOf_2 18 rfl rfl)
theorem dX4_gainOf_67 : decode cX4_gainOf 67 = .ok (.iaload, 1) := dk_46 (dk_at dksX4_gainOf_2 20 rfl rfl)
theorem dX4_gainOf_68 : decode cX4_gainOf 68 = .ok (.iastore, 1) := dk_79 (dk_at dksX4_gainOf_2 21 rfl rfl)
theorem dX4_gainOf_69 : decode cX4_gainOf 69 = .ok (.iinc 5 1, 3) := dk_132 5 1 (dk_at dksX4_gainOf_3 0 rfl rfl)
theorem dX4_gainOf_72 : decode cX4_gainOf 72 = .ok (.goto (-25), 3) := dk_167 255 231 (dk_at dksX4_gainOf_3 3 rfl rfl)
theorem dX4_gainOf_75 : decode cX4_gainOf 75 = .ok (.iload_n 3, 1) := dk_29 (dk_at dksX4_gainOf_3 6 rfl rfl)
theorem dX4_gainOf_76 : decode cX4_gainOf 76 = .ok (.iload 4, 2) := dk_21 4 (dk_at dksX4_gainOf_3 7 rfl rfl)
theorem dX4_gainOf_78 : decode cX4_gainOf 78 = .ok (.isub, 1) := dk_100 (dk_at dksX4_gainOf_3 9 rfl rfl)
theorem dX4_gainOf_79 : decode cX4_gainOf 79 = .ok (.ireturn, 1) := dk_172 (dk_at dksX4_gainOf_3 10 rfl rfl)
abbrev cX4_compact : ByteArray := prog_17_method_75_code
def yX4_compact : MethodName := ⟨RX4, "compact", "()I"⟩
def dkwX4_compact_6 : List UInt8 := [167, 255, 142, 28, 155, 0, 12, 42, 28, 29, 182, 0, 234, 132, 1, 1, 167, 255, 112, 27, 172]
abbrev dktX4_compact_6 : List UInt8 := dkwX4_compact_6 ++ []
def dkwX4_compact_5 : List UInt8 := [54, 9, 21, 9, 21, 4, 164, 0, 13, 21, 9, 54, 4, 21, 6, 61, 21, 7, 62, 132, 5, 1]
abbrev dktX4_compact_5 : List UInt8 := dkwX4_compact_5 ++ dktX4_compact_6
def dkwX4_compact_4 : List UInt8 := [4, 167, 0, 4, 3, 54, 8, 21, 8, 153, 0, 14, 42, 21, 6, 21, 7, 182, 0, 240, 167, 0, 4, 3]
abbrev dktX4_compact_4 : List UInt8 := dkwX4_compact_4 ++ dktX4_compact_5
def dkwX4_compact_3 : List UInt8 := [153, 0, 28, 42, 42, 21, 6, 3, 182, 0, 88, 42, 21, 7, 3, 182, 0, 88, 182, 0, 104, 153, 0, 7]
abbrev dktX4_compact_3 : List UInt8 := dkwX4_compact_3 ++ dktX4_compact_4
def dkwX4_compact_2 : List UInt8 := [54, 7, 21, 6, 21, 7, 162, 0, 46, 42, 21, 6, 182, 0, 91, 153, 0, 37, 42, 21, 7, 182, 0, 91]
abbrev dktX4_compact_2 : List UInt8 := dkwX4_compact_2 ++ dktX4_compact_3
def dkwX4_compact_1 : List UInt8 := [3, 54, 5, 21, 5, 17, 0, 144, 162, 0, 112, 21, 5, 16, 12, 108, 54, 6, 21, 5, 16, 12, 112]
abbrev dktX4_compact_1 : List UInt8 := dkwX4_compact_1 ++ dktX4_compact_2
def dkwX4_compact_0 : List UInt8 := [42, 3, 181, 0, 55, 42, 182, 0, 145, 3, 60, 3, 61, 28, 155, 0, 146, 2, 61, 2, 62, 3, 54, 4]
abbrev dktX4_compact_0 : List UInt8 := dkwX4_compact_0 ++ dktX4_compact_1
theorem dksX4_compact_0 : cX4_compact.data.toList.drop 0 = dktX4_compact_0 := by decide +kernel
theorem dksX4_compact_1 : cX4_compact.data.toList.drop 24 = dktX4_compact_1 := dk_seg dksX4_compact_0 24 rfl rfl
theorem dksX4_compact_2 : cX4_compact.data.toList.drop 47 = dktX4_compact_2 := dk_seg dksX4_compact_1 23 rfl rfl
theorem dksX4_compact_3 : cX4_compact.data.toList.drop 71 = dktX4_compact_3 := dk_seg dksX4_compact_2 24 rfl rfl
theorem dksX4_compact_4 : cX4_compact.data.toList.drop 95 = dktX4_compact_4 := dk_seg dksX4_compact_3 24 rfl rfl
theorem dksX4_compact_5 : cX4_compact.data.toList.drop 119 = dktX4_compact_5 := dk_seg dksX4_compact_4 24 rfl rfl
theorem dksX4_compact_6 : cX4_compact.data.toList.drop 141 = dktX4_compact_6 := dk_seg dksX4_compact_5 22 rfl rfl
theorem dX4_compact_0 : decode cX4_compact 0 = .ok (.aload_n 0, 1) := dk_42 (dk_at dksX4_compact_0 0 rfl rfl)
theorem dX4_compact_1 : decode cX4_compact 1 = .ok (.iconst 0, 1) := dk_3 (dk_at dksX4_compact_0 1 rfl rfl)
theorem dX4_compact_2 : decode cX4_compact 2 = .ok (.putfield 55, 3) := dk_181 0 55 (dk_at dksX4_compact_0 2 rfl rfl)
theorem dX4_compact_5 : decode cX4_compact 5 = .ok (.aload_n 0, 1) := dk_42 (dk_at dksX4_compact_0 5 rfl rfl)
theorem dX4_compact_6 : decode cX4_compact 6 = .ok (.invokevirtual 145, 3) := dk_182 0 145 (dk_at dksX4_compact_0 6 rfl rfl)
theorem dX4_compact_9 : decode cX4_compact 9 = .ok (.iconst 0, 1) := dk_3 (dk_at dksX4_compact_0 9 rfl rfl)
theorem dX4_compact_10 : decode cX4_compact 10 = .ok (.istore_n 1, 1) := dk_60 (dk_at dksX4_compact_0 10 rfl rfl)
theorem dX4_compact_11 : decode cX4_compact 11 = .ok (.iconst 0, 1) := dk_3 (dk_at dksX4_compact_0 11 rfl rfl)
theorem dX4_compact_12 : decode cX4_compact 12 = .ok (.istore_n 2, 1) := dk_61 (dk_at dksX4_compact_0 12 rfl rfl)
theorem dX4_compact_13 : decode cX4_compact 13 = .ok (.iload_n 2, 1) := dk_28 (dk_at dksX4_compact_0 13 rfl rfl)
theorem dX4_compact_14 : decode cX4_compact 14 = .ok (.ifCond .lt 146, 3) := dk_155 0 146 (dk_at dksX4_compact_0 14 rfl rfl)
theorem dX4_compact_17 : decode cX4_compact 17 = .ok (.iconst (-1), 1) := dk_2 (dk_at dksX4_compact_0 17 rfl rfl)
theorem dX4_compact_18 : decode cX4_compact 18 = .ok (.istore_n 2, 1) := dk_61 (dk_at dksX4_compact_0 18 rfl rfl)
theorem dX4_compact_19 : decode cX4_compact 19 = .ok (.iconst (-1), 1) := dk_2 (dk_at dksX4_compact_0 19 rfl rfl)
theorem dX4_compact_20 : decode cX4_compact 20 = .ok (.istore_n 3, 1) := dk_62 (dk_at dksX4_compact_0 20 rfl rfl)
theorem dX4_compact_21 : decode cX4_compact 21 = .ok (.iconst 0, 1) := dk_3 (dk_at dksX4_compact_0 21 rfl rfl)
theorem dX4_compact_22 : decode cX4_compact 22 = .ok (.istore 4, 2) := dk_54 4 (dk_at dksX4_compact_0 22 rfl rfl)
theorem dX4_compact_24 : decode cX4_compact 24 = .ok (.iconst 0, 1) := dk_3 (dk_at dksX4_compact_1 0 rfl rfl)
theorem dX4_compact_25 : decode cX4_compact 25 = .ok (.istore 5, 2) := dk_54 5 (dk_at dksX4_compact_1 1 rfl rfl)
theorem dX4_compact_27 : decode cX4_compact 27 = .ok (.iload 5, 2) := dk_21 5 (dk_at dksX4_compact_1 3 rfl rfl)
theorem dX4_compact_29 : decode cX4_compact 29 = .ok (.sipush 144, 3) := dk_17 0 144 (dk_at dksX4_compact_1 5 rfl rfl)
theorem dX4_compact_32 : decode cX4_compact 32 = .ok (.if_icmp .ge 112, 3) := dk_162 0 112 (dk_at dksX4_compact_1 8 rfl rfl)
theorem dX4_compact_35 : decode cX4_compact 35 = .ok (.iload 5, 2) := dk_21 5 (dk_at dksX4_compact_1 11 rfl rfl)
theorem dX4_compact_37 : decode cX4_compact 37 = .ok (.bipush 12, 2) := dk_16 12 (dk_at dksX4_compact_1 13 rfl rfl)
theorem dX4_compact_39 : decode cX4_compact 39 = .ok (.idiv, 1) := dk_108 (dk_at dksX4_compact_1 15 rfl rfl)
theorem dX4_compact_40 : decode cX4_compact 40 = .ok (.istore 6, 2) := dk_54 6 (dk_at dksX4_compact_1 16 rfl rfl)
theorem dX4_compact_42 : decode cX4_compact 42 = .ok (.iload 5, 2) := dk_21 5 (dk_at dksX4_compact_1 18 rfl rfl)
theorem dX4_compact_44 : decode cX4_compact 44 = .ok (.bipush 12, 2) := dk_16 12 (dk_at dksX4_compact_1 20 rfl rfl)
theorem dX4_compact_46 : decode cX4_compact 46 = .ok (.irem, 1) := dk_112 (dk_at dksX4_compact_1 22 rfl rfl)
theorem dX4_compact_47 : decode cX4_compact 47 = .ok (.istore 7, 2) := dk_54 7 (dk_at dksX4_compact_2 0 rfl rfl)
theorem dX4_compact_49 : decode cX4_compact 49 = .ok (.iload 6, 2) := dk_21 6 (dk_at dksX4_compact_2 2 rfl rfl)
theorem dX4_compact_51 : decode cX4_compact 51 = .ok (.iload 7, 2) := dk_21 7 (dk_at dksX4_compact_2 4 rfl rfl)
theorem dX4_compact_53 : decode cX4_compact 53 = .ok (.if_icmp .ge 46, 3) := dk_162 0 46 (dk_at dksX4_compact_2 6 rfl rfl)
theorem dX4_compact_56 : decode cX4_compact 56 = .ok (.aload_n 0, 1) := dk_42 (dk_at dksX4_compact_2 9 rfl rfl)
theorem dX4_compact_57 : decode cX4_compact 57 = .ok (.iload 6, 2) := dk_21 6 (dk_at dksX4_compact_2 10 rfl rfl)
theorem dX4_compact_59 : decode cX4_compact 59 = .ok (.invokevirtual 91, 3) := dk_182 0 91 (dk_at dksX4_compact_2 12 rfl rfl)
theorem dX4_compact_62 : decode cX4_compact 62 = .ok (.ifCond .eq 37, 3) := dk_153 0 37 (dk_at dksX4_compact_2 15 rfl rfl)
theorem dX4_compact_65 : decode cX4_compact 65 = .ok (.aload_n 0, 1) := dk_42 (dk_at dksX4_compact_2 18 rfl rfl)
theorem dX4_compact_66 : decode cX4_compact 66 = .ok (.iload 7, 2) := dk_21 7 (dk_at dksX4_compact_2 19 rfl rfl)
theorem dX4_compact_68 : decode cX4_compact 68 = .ok (.invokevirtual 91, 3) := dk_182 0 91 (dk_at dksX4_compact_2 21 rfl rfl)
theorem dX4_compact_71 : decode cX4_compact 71 = .ok (.ifCond .eq 28, 3) := dk_153 0 28 (dk_at dksX4_compact_3 0 rfl rfl)
theorem dX4_compact_74 : decode cX4_compact 74 = .ok (.aload_n 0, 1) := dk_42 (dk_at dksX4_compact_3 3 rfl rfl)
theorem dX4_compact_75 : decode cX4_compact 75 = .ok (.aload_n 0, 1) := dk_42 (dk_at dksX4_compact_3 4 rfl rfl)
theorem dX4_compact_76 : decode cX4_compact 76 = .ok (.iload 6, 2) := dk_21 6 (dk_at dksX4_compact_3 5 rfl rfl)
theorem dX4_compact_78 : decode cX4_compact 78 = .ok (.iconst 0, 1) := dk_3 (dk_at dksX4_compact_3 7 rfl rfl)
theorem dX4_compact_79 : decode cX4_compact 79 = .ok (.invokevirtual 88, 3) := dk_182 0 88 (dk_at dksX4_compact_3 8 rfl rfl)
theorem dX4_compact_82 : decode cX4_compact 82 = .ok (.aload_n 0, 1) := dk_42 (dk_at dksX4_compact_3 11 rfl rfl)
theorem dX4_compact_83 : decode cX4_compact 83 = .ok (.iload 7, 2) := dk_21 7 (dk_at dksX4_compact_3 12 rfl rfl)
theorem dX4_compact_85 : decode cX4_compact 85 = .ok (.iconst 0, 1) := dk_3 (dk_at dksX4_compact_3 14 rfl rfl)
theorem dX4_compact_86 : decode cX4_compact 86 = .ok (.invokevirtual 88, 3) := dk_182 0 88 (dk_at dksX4_compact_3 15 rfl rfl)
theorem dX4_compact_89 : decode cX4_compact 89 = .ok (.invokevirtual 104, 3) := dk_182 0 104 (dk_at dksX4_compact_3 18 rfl rfl)
theorem dX4_compact_92 : decode cX4_compact 92 = .ok (.ifCond .eq 7, 3) := dk_153 0 7 (dk_at dksX4_compact_3 21 rfl rfl)
theorem dX4_compact_95 : decode cX4_compact 95 = .ok (.iconst 1, 1) := dk_4 (dk_at dksX4_compact_4 0 rfl rfl)
theorem dX4_compact_96 : decode cX4_compact 96 = .ok (.goto 4, 3) := dk_167 0 4 (dk_at dksX4_compact_4 1 rfl rfl)
theorem dX4_compact_99 : decode cX4_compact 99 = .ok (.iconst 0, 1) := dk_3 (dk_at dksX4_compact_4 4 rfl rfl)
theorem dX4_compact_100 : decode cX4_compact 100 = .ok (.istore 8, 2) := dk_54 8 (dk_at dksX4_compact_4 5 rfl rfl)
theorem dX4_compact_102 : decode cX4_compact 102 = .ok (.iload 8, 2) := dk_21 8 (dk_at dksX4_compact_4 7 rfl rfl)
theorem dX4_compact_104 : decode cX4_compact 104 = .ok (.ifCond .eq 14, 3) := dk_153 0 14 (dk_at dksX4_compact_4 9 rfl rfl)
theorem dX4_compact_107 : decode cX4_compact 107 = .ok (.aload_n 0, 1) := dk_42 (dk_at dksX4_compact_4 12 rfl rfl)
theorem dX4_compact_108 : decode cX4_compact 108 = .ok (.iload 6, 2) := dk_21 6 (dk_at dksX4_compact_4 13 rfl rfl)
theorem dX4_compact_110 : decode cX4_compact 110 = .ok (.iload 7, 2) := dk_21 7 (dk_at dksX4_compact_4 15 rfl rfl)
theorem dX4_compact_112 : decode cX4_compact 112 = .ok (.invokevirtual 240, 3) := dk_182 0 240 (dk_at dksX4_compact_4 17 rfl rfl)
theorem dX4_compact_115 : decode cX4_compact 115 = .ok (.goto 4, 3) := dk_167 0 4 (dk_at dksX4_compact_4 20 rfl rfl)
theorem dX4_compact_118 : decode cX4_compact 118 = .ok (.iconst 0, 1) := dk_3 (dk_at dksX4_compact_4 23 rfl rfl)
theorem dX4_compact_119 : decode cX4_compact 119 = .ok (.istore 9, 2) := dk_54 9 (dk_at dksX4_compact_5 0 rfl rfl)
theorem dX4_compact_121 : decode cX4_compact 121 = .ok (.iload 9, 2) := dk_21 9 (dk_at dksX4_compact_5 2 rfl rfl)
theorem dX4_compact_123 : decode cX4_compact 123 = .ok (.iload 4, 2) := dk_21 4 (dk_at dksX4_compact_5 4 rfl rfl)
theorem dX4_compact_125 : decode cX4_compact 125 = .ok (.if_icmp .le 13, 3) := dk_164 0 13 (dk_at dksX4_compact_5 6 rfl rfl)
theorem dX4_compact_128 : decode cX4_compact 128 = .ok (.iload 9, 2) := dk_21 9 (dk_at dksX4_compact_5 9 rfl rfl)
theorem dX4_compact_130 : decode cX4_compact 130 = .ok (.istore 4, 2) := dk_54 4 (dk_at dksX4_compact_5 11 rfl rfl)
theorem dX4_compact_132 : decode cX4_compact 132 = .ok (.iload 6, 2) := dk_21 6 (dk_at dksX4_compact_5 13 rfl rfl)
theorem dX4_compact_134 : decode cX4_compact 134 = .ok (.istore_n 2, 1) := dk_61 (dk_at dksX4_compact_5 15 rfl rfl)
theorem dX4_compact_135 : decode cX4_compact 135 = .ok (.iload 7, 2) := dk_21 7 (dk_at dksX4_compact_5 16 rfl rfl)
theorem dX4_compact_137 : decode cX4_compact 137 = .ok (.istore_n 3, 1) := dk_62 (dk_at dksX4_compact_5 18 rfl rfl)
theorem dX4_compact_138 : decode cX4_compact 138 = .ok (.iinc 5 1, 3) := dk_132 5 1 (dk_at dksX4_compact_5 19 rfl rfl)
theorem dX4_compact_141 : decode cX4_compact 141 = .ok (.goto (-114), 3) := dk_167 255 142 (dk_at dksX4_compact_6 0 rfl rfl)
theorem dX4_compact_144 : decode cX4_compact 144 = .ok (.iload_n 2, 1) := dk_28 (dk_at dksX4_compact_6 3 rfl rfl)
theorem dX4_compact_145 : decode cX4_compact 145 = .ok (.ifCond .lt 12, 3) := dk_155 0 12 (dk_at dksX4_compact_6 4 rfl rfl)
theorem dX4_compact_148 : decode cX4_compact 148 = .ok (.aload_n 0, 1) := dk_42 (dk_at dksX4_compact_6 7 rfl rfl)
theorem dX4_compact_149 : decode cX4_compact 149 = .ok (.iload_n 2, 1) := dk_28 (dk_at dksX4_compact_6 8 rfl rfl)
theorem dX4_compact_150 : decode cX4_compact 150 = .ok (.iload_n 3, 1) := dk_29 (dk_at dksX4_compact_6 9 rfl rfl)
theorem dX4_compact_151 : decode cX4_compact 151 = .ok (.invokevirtual 234, 3) := dk_182 0 234 (dk_at dksX4_compact_6 10 rfl rfl)
theorem dX4_compact_154 : decode cX4_compact 154 = .ok (.iinc 1 1, 3) := dk_132 1 1 (dk_at dksX4_compact_6 13 rfl rfl)
theorem dX4_compact_157 : decode cX4_compact 157 = .ok (.goto (-144), 3) := dk_167 255 112 (dk_at dksX4_compact_6 16 rfl rfl)
theorem dX4_compact_160 : decode cX4_compact 160 = .ok (.iload_n 1, 1) := dk_27 (dk_at dksX4_compact_6 19 rfl rfl)
theorem dX4_compact_161 : decode cX4_compact 161 = .ok (.ireturn, 1) := dk_172 (dk_at dksX4_compact_6 20 rfl rfl)
abbrev cX4_query : ByteArray := prog_17_method_86_code
def yX4_query : MethodName := ⟨RX4, "query", "()I"⟩
def dkwX4_query_8 : List UInt8 := [132, 4, 1, 167, 255, 233, 42, 182, 1, 29, 172]
abbrev dktX4_query_8 : List UInt8 := dkwX4_query_8 ++ []
def dkwX4_query_7 : List UInt8 := [54, 4, 21, 4, 29, 162, 0, 23, 42, 180, 0, 49, 21, 4, 42, 180, 0, 37, 21, 4, 46, 79]
abbrev dktX4_query_7 : List UInt8 := dkwX4_query_7 ++ dktX4_query_8
def dkwX4_query_6 : List UInt8 := [162, 0, 23, 42, 180, 0, 46, 21, 4, 42, 180, 0, 52, 21, 4, 46, 79, 132, 4, 1, 167, 255, 227, 3]
abbrev dktX4_query_6 : List UInt8 := dkwX4_query_6 ++ dktX4_query_7
def dkwX4_query_5 : List UInt8 := [181, 1, 26, 42, 42, 180, 0, 255, 181, 1, 14, 3, 54, 4, 21, 4, 16, 7, 42, 180, 0, 255, 104]
abbrev dktX4_query_5 : List UInt8 := dkwX4_query_5 ++ dktX4_query_6
def dkwX4_query_4 : List UInt8 := [180, 0, 119, 62, 42, 3, 181, 0, 119, 28, 154, 0, 11, 16, 156, 42, 180, 0, 243, 100, 172, 42, 4]
abbrev dktX4_query_4 : List UInt8 := dkwX4_query_4 ++ dktX4_query_5
def dkwX4_query_3 : List UInt8 := [180, 0, 249, 154, 0, 18, 42, 180, 0, 243, 42, 180, 0, 119, 160, 0, 7, 4, 167, 0, 4, 3, 61, 42]
abbrev dktX4_query_3 : List UInt8 := dkwX4_query_3 ++ dktX4_query_4
def dkwX4_query_2 : List UInt8 := [60, 42, 89, 180, 0, 243, 27, 153, 0, 7, 4, 167, 0, 4, 3, 96, 181, 0, 243, 167, 255, 208, 42]
abbrev dktX4_query_2 : List UInt8 := dkwX4_query_2 ++ dktX4_query_3
def dkwX4_query_1 : List UInt8 := [182, 1, 23, 42, 180, 0, 249, 154, 0, 16, 42, 182, 0, 246, 16, 38, 160, 0, 7, 4, 167, 0, 4, 3]
abbrev dktX4_query_1 : List UInt8 := dkwX4_query_1 ++ dktX4_query_2
def dkwX4_query_0 : List UInt8 := [42, 3, 181, 0, 55, 42, 3, 181, 0, 243, 42, 3, 181, 0, 255, 4, 60, 27, 153, 0, 50, 42]
abbrev dktX4_query_0 : List UInt8 := dkwX4_query_0 ++ dktX4_query_1
theorem dksX4_query_0 : cX4_query.data.toList.drop 0 = dktX4_query_0 := by decide +kernel
theorem dksX4_query_1 : cX4_query.data.toList.drop 22 = dktX4_query_1 := dk_seg dksX4_query_0 22 rfl rfl
theorem dksX4_query_2 : cX4_query.data.toList.drop 46 = dktX4_query_2 := dk_seg dksX4_query_1 24 rfl rfl
theorem dksX4_query_3 : cX4_query.data.toList.drop 69 = dktX4_query_3 := dk_seg dksX4_query_2 23 rfl rfl
theorem dksX4_query_4 : cX4_query.data.toList.drop 93 = dktX4_query_4 := dk_seg dksX4_query_3 24 rfl rfl
theorem dksX4_query_5 : cX4_query.data.toList.drop 116 = dktX4_query_5 := dk_seg dksX4_query_4 23 rfl rfl
theorem dksX4_query_6 : cX4_query.data.toList.drop 139 = dktX4_query_6 := dk_seg dksX4_query_5 23 rfl rfl
theorem dksX4_query_7 : cX4_query.data.toList.drop 163 = dktX4_query_7 := dk_seg dksX4_query_6 24 rfl rfl
theorem dksX4_query_8 : cX4_query.data.toList.drop 185 = dktX4_query_8 := dk_seg dksX4_query_7 22 rfl rfl
theorem dX4_query_0 : decode cX4_query 0 = .ok (.aload_n 0, 1) := dk_42 (dk_at dksX4_query_0 0 rfl rfl)
theorem dX4_query_1 : decode cX4_query 1 = .ok (.iconst 0, 1) := dk_3 (dk_at dksX4_query_0 1 rfl rfl)
theorem dX4_query_2 : decode cX4_query 2 = .ok (.putfield 55, 3) := dk_181 0 55 (dk_at dksX4_query_0 2 rfl rfl)
theorem dX4_query_5 : decode cX4_query 5 = .ok (.aload_n 0, 1) := dk_42 (dk_at dksX4_query_0 5 rfl rfl)
theorem dX4_query_6 : decode cX4_query 6 = .ok (.iconst 0, 1) := dk_3 (dk_at dksX4_query_0 6 rfl rfl)
theorem dX4_query_7 : decode cX4_query 7 = .ok (.putfield 243, 3) := dk_181 0 243 (dk_at dksX4_query_0 7 rfl rfl)
theorem dX4_query_10 : decode cX4_query 10 = .ok (.aload_n 0, 1) := dk_42 (dk_at dksX4_query_0 10 rfl rfl)
theorem dX4_query_11 : decode cX4_query 11 = .ok (.iconst 0, 1) := dk_3 (dk_at dksX4_query_0 11 rfl rfl)
theorem dX4_query_12 : decode cX4_query 12 = .ok (.putfield 255, 3) := dk_181 0 255 (dk_at dksX4_query_0 12 rfl rfl)
theorem dX4_query_15 : decode cX4_query 15 = .ok (.iconst 1, 1) := dk_4 (dk_at dksX4_query_0 15 rfl rfl)
theorem dX4_query_16 : decode cX4_query 16 = .ok (.istore_n 1, 1) := dk_60 (dk_at dksX4_query_0 16 rfl rfl)
theorem dX4_query_17 : decode cX4_query 17 = .ok (.iload_n 1, 1) := dk_27 (dk_at dksX4_query_0 17 rfl rfl)
theorem dX4_query_18 : decode cX4_query 18 = .ok (.ifCond .eq 50, 3) := dk_153 0 50 (dk_at dksX4_query_0 18 rfl rfl)
theorem dX4_query_21 : decode cX4_query 21 = .ok (.aload_n 0, 1) := dk_42 (dk_at dksX4_query_0 21 rfl rfl)
theorem dX4_query_22 : decode cX4_query 22 = .ok (.invokevirtual 279, 3) := dk_182 1 23 (dk_at dksX4_query_1 0 rfl rfl)
theorem dX4_query_25 : decode cX4_query 25 = .ok (.aload_n 0, 1) := dk_42 (dk_at dksX4_query_1 3 rfl rfl)
theorem dX4_query_26 : decode cX4_query 26 = .ok (.getfield 249, 3) := dk_180 0 249 (dk_at dksX4_query_1 4 rfl rfl)
theorem dX4_query_29 : decode cX4_query 29 = .ok (.ifCond .ne 16, 3) := dk_154 0 16 (dk_at dksX4_query_1 7 rfl rfl)
theorem dX4_query_32 : decode cX4_query 32 = .ok (.aload_n 0, 1) := dk_42 (dk_at dksX4_query_1 10 rfl rfl)
theorem dX4_query_33 : decode cX4_query 33 = .ok (.invokevirtual 246, 3) := dk_182 0 246 (dk_at dksX4_query_1 11 rfl rfl)
theorem dX4_query_36 : decode cX4_query 36 = .ok (.bipush 38, 2) := dk_16 38 (dk_at dksX4_query_1 14 rfl rfl)
theorem dX4_query_38 : decode cX4_query 38 = .ok (.if_icmp .ne 7, 3) := dk_160 0 7 (dk_at dksX4_query_1 16 rfl rfl)
theorem dX4_query_41 : decode cX4_query 41 = .ok (.iconst 1, 1) := dk_4 (dk_at dksX4_query_1 19 rfl rfl)
theorem dX4_query_42 : decode cX4_query 42 = .ok (.goto 4, 3) := dk_167 0 4 (dk_at dksX4_query_1 20 rfl rfl)
theorem dX4_query_45 : decode cX4_query 45 = .ok (.iconst 0, 1) := dk_3 (dk_at dksX4_query_1 23 rfl rfl)
theorem dX4_query_46 : decode cX4_query 46 = .ok (.istore_n 1, 1) := dk_60 (dk_at dksX4_query_2 0 rfl rfl)
theorem dX4_query_47 : decode cX4_query 47 = .ok (.aload_n 0, 1) := dk_42 (dk_at dksX4_query_2 1 rfl rfl)
theorem dX4_query_48 : decode cX4_query 48 = .ok (.dup, 1) := dk_89 (dk_at dksX4_query_2 2 rfl rfl)
theorem dX4_query_49 : decode cX4_query 49 = .ok (.getfield 243, 3) := dk_180 0 243 (dk_at dksX4_query_2 3 rfl rfl)
theorem dX4_query_52 : decode cX4_query 52 = .ok (.iload_n 1, 1) := dk_27 (dk_at dksX4_query_2 6 rfl rfl)
theorem dX4_query_53 : decode cX4_query 53 = .ok (.ifCond .eq 7, 3) := dk_153 0 7 (dk_at dksX4_query_2 7 rfl rfl)
theorem dX4_query_56 : decode cX4_query 56 = .ok (.iconst 1, 1) := dk_4 (dk_at dksX4_query_2 10 rfl rfl)
theorem dX4_query_57 : decode cX4_query 57 = .ok (.goto 4, 3) := dk_167 0 4 (dk_at dksX4_query_2 11 rfl rfl)
theorem dX4_query_60 : decode cX4_query 60 = .ok (.iconst 0, 1) := dk_3 (dk_at dksX4_query_2 14 rfl rfl)
theorem dX4_query_61 : decode cX4_query 61 = .ok (.iadd, 1) := dk_96 (dk_at dksX4_query_2 15 rfl rfl)
theorem dX4_query_62 : decode cX4_query 62 = .ok (.putfield 243, 3) := dk_181 0 243 (dk_at dksX4_query_2 16 rfl rfl)
theorem dX4_query_65 : decode cX4_query 65 = .ok (.goto (-48), 3) := dk_167 255 208 (dk_at dksX4_query_2 19 rfl rfl)
theorem dX4_query_68 : decode cX4_query 68 = .ok (.aload_n 0, 1) := dk_42 (dk_at dksX4_query_2 22 rfl rfl)
theorem dX4_query_69 : decode cX4_query 69 = .ok (.getfield 249, 3) := dk_180 0 249 (dk_at dksX4_query_3 0 rfl rfl)
theorem dX4_query_72 : decode cX4_query 72 = .ok (.ifCond .ne 18, 3) := dk_154 0 18 (dk_at dksX4_query_3 3 rfl rfl)
theorem dX4_query_75 : decode cX4_query 75 = .ok (.aload_n 0, 1) := dk_42 (dk_at dksX4_query_3 6 rfl rfl)
theorem dX4_query_76 : decode cX4_query 76 = .ok (.getfield 243, 3) := dk_180 0 243 (dk_at dksX4_query_3 7 rfl rfl)
theorem dX4_query_79 : decode cX4_query 79 = .ok (.aload_n 0, 1) := dk_42 (dk_at dksX4_query_3 10 rfl rfl)
theorem dX4_query_80 : decode cX4_query 80 = .ok (.getfield 119, 3) := dk_180 0 119 (dk_at dksX4_query_3 11 rfl rfl)
theorem dX4_query_83 : decode cX4_query 83 = .ok (.if_icmp .ne 7, 3) := dk_160 0 7 (dk_at dksX4_query_3 14 rfl rfl)
theorem dX4_query_86 : decode cX4_query 86 = .ok (.iconst 1, 1) := dk_4 (dk_at dksX4_query_3 17 rfl rfl)
theorem dX4_query_87 : decode cX4_query 87 = .ok (.goto 4, 3) := dk_167 0 4 (dk_at dksX4_query_3 18 rfl rfl)
theorem dX4_query_90 : decode cX4_query 90 = .ok (.iconst 0, 1) := dk_3 (dk_at dksX4_query_3 21 rfl rfl)
theorem dX4_query_91 : decode cX4_query 91 = .ok (.istore_n 2, 1) := dk_61 (dk_at dksX4_query_3 22 rfl rfl)
theorem dX4_query_92 : decode cX4_query 92 = .ok (.aload_n 0, 1) := dk_42 (dk_at dksX4_query_3 23 rfl rfl)
theorem dX4_query_93 : decode cX4_query 93 = .ok (.getfield 119, 3) := dk_180 0 119 (dk_at dksX4_query_4 0 rfl rfl)
theorem dX4_query_96 : decode cX4_query 96 = .ok (.istore_n 3, 1) := dk_62 (dk_at dksX4_query_4 3 rfl rfl)
theorem dX4_query_97 : decode cX4_query 97 = .ok (.aload_n 0, 1) := dk_42 (dk_at dksX4_query_4 4 rfl rfl)
theorem dX4_query_98 : decode cX4_query 98 = .ok (.iconst 0, 1) := dk_3 (dk_at dksX4_query_4 5 rfl rfl)
theorem dX4_query_99 : decode cX4_query 99 = .ok (.putfield 119, 3) := dk_181 0 119 (dk_at dksX4_query_4 6 rfl rfl)
theorem dX4_query_102 : decode cX4_query 102 = .ok (.iload_n 2, 1) := dk_28 (dk_at dksX4_query_4 9 rfl rfl)
theorem dX4_query_103 : decode cX4_query 103 = .ok (.ifCond .ne 11, 3) := dk_154 0 11 (dk_at dksX4_query_4 10 rfl rfl)
theorem dX4_query_106 : decode cX4_query 106 = .ok (.bipush (-100), 2) := dk_16 156 (dk_at dksX4_query_4 13 rfl rfl)
theorem dX4_query_108 : decode cX4_query 108 = .ok (.aload_n 0, 1) := dk_42 (dk_at dksX4_query_4 15 rfl rfl)
theorem dX4_query_109 : decode cX4_query 109 = .ok (.getfield 243, 3) := dk_180 0 243 (dk_at dksX4_query_4 16 rfl rfl)
theorem dX4_query_112 : decode cX4_query 112 = .ok (.isub, 1) := dk_100 (dk_at dksX4_query_4 19 rfl rfl)
theorem dX4_query_113 : decode cX4_query 113 = .ok (.ireturn, 1) := dk_172 (dk_at dksX4_query_4 20 rfl rfl)
theorem dX4_query_114 : decode cX4_query 114 = .ok (.aload_n 0, 1) := dk_42 (dk_at dksX4_query_4 21 rfl rfl)
theorem dX4_query_115 : decode cX4_query 115 = .ok (.iconst 1, 1) := dk_4 (dk_at dksX4_query_4 22 rfl rfl)
theorem dX4_query_116 : decode cX4_query 116 = .ok (.putfield 282, 3) := dk_181 1 26 (dk_at dksX4_query_5 0 rfl rfl)
theorem dX4_query_119 : decode cX4_query 119 = .ok (.aload_n 0, 1) := dk_42 (dk_at dksX4_query_5 3 rfl rfl)
theorem dX4_query_120 : decode cX4_query 120 = .ok (.aload_n 0, 1) := dk_42 (dk_at dksX4_query_5 4 rfl rfl)
theorem dX4_query_121 : decode cX4_query 121 = .ok (.getfield 255, 3) := dk_180 0 255 (dk_at dksX4_query_5 5 rfl rfl)
theorem dX4_query_124 : decode cX4_query 124 = .ok (.putfield 270, 3) := dk_181 1 14 (dk_at dksX4_query_5 8 rfl rfl)
theorem dX4_query_127 : decode cX4_query 127 = .ok (.iconst 0, 1) := dk_3 (dk_at dksX4_query_5 11 rfl rfl)
theorem dX4_query_128 : decode cX4_query 128 = .ok (.istore 4, 2) := dk_54 4 (dk_at dksX4_query_5 12 rfl rfl)
theorem dX4_query_130 : decode cX4_query 130 = .ok (.iload 4, 2) := dk_21 4 (dk_at dksX4_query_5 14 rfl rfl)
theorem dX4_query_132 : decode cX4_query 132 = .ok (.bipush 7, 2) := dk_16 7 (dk_at dksX4_query_5 16 rfl rfl)
theorem dX4_query_134 : decode cX4_query 134 = .ok (.aload_n 0, 1) := dk_42 (dk_at dksX4_query_5 18 rfl rfl)
theorem dX4_query_135 : decode cX4_query 135 = .ok (.getfield 255, 3) := dk_180 0 255 (dk_at dksX4_query_5 19 rfl rfl)
theorem dX4_query_138 : decode cX4_query 138 = .ok (.imul, 1) := dk_104 (dk_at dksX4_query_5 22 rfl rfl)
theorem dX4_query_139 : decode cX4_query 139 = .ok (.if_icmp .ge 23, 3) := dk_162 0 23 (dk_at dksX4_query_6 0 rfl rfl)
theorem dX4_query_142 : decode cX4_query 142 = .ok (.aload_n 0, 1) := dk_42 (dk_at dksX4_query_6 3 rfl rfl)
theorem dX4_query_143 : decode cX4_query 143 = .ok (.getfield 46, 3) := dk_180 0 46 (dk_at dksX4_query_6 4 rfl rfl)
theorem dX4_query_146 : decode cX4_query 146 = .ok (.iload 4, 2) := dk_21 4 (dk_at dksX4_query_6 7 rfl rfl)
theorem dX4_query_148 : decode cX4_query 148 = .ok (.aload_n 0, 1) := dk_42 (dk_at dksX4_query_6 9 rfl rfl)
theorem dX4_query_149 : decode cX4_query 149 = .ok (.getfield 52, 3) := dk_180 0 52 (dk_at dksX4_query_6 10 rfl rfl)
theorem dX4_query_152 : decode cX4_query 152 = .ok (.iload 4, 2) := dk_21 4 (dk_at dksX4_query_6 13 rfl rfl)
theorem dX4_query_154 : decode cX4_query 154 = .ok (.iaload, 1) := dk_46 (dk_at dksX4_query_6 15 rfl rfl)
theorem dX4_query_155 : decode cX4_query 155 = .ok (.iastore, 1) := dk_79 (dk_at dksX4_query_6 16 rfl rfl)
theorem dX4_query_156 : decode cX4_query 156 = .ok (.iinc 4 1, 3) := dk_132 4 1 (dk_at dksX4_query_6 17 rfl rfl)
theorem dX4_query_159 : decode cX4_query 159 = .ok (.goto (-29), 3) := dk_167 255 227 (dk_at dksX4_query_6 20 rfl rfl)
theorem dX4_query_162 : decode cX4_query 162 = .ok (.iconst 0, 1) := dk_3 (dk_at dksX4_query_6 23 rfl rfl)
theorem dX4_query_163 : decode cX4_query 163 = .ok (.istore 4, 2) := dk_54 4 (dk_at dksX4_query_7 0 rfl rfl)
theorem dX4_query_165 : decode cX4_query 165 = .ok (.iload 4, 2) := dk_21 4 (dk_at dksX4_query_7 2 rfl rfl)
theorem dX4_query_167 : decode cX4_query 167 = .ok (.iload_n 3, 1) := dk_29 (dk_at dksX4_query_7 4 rfl rfl)
theorem dX4_query_168 : decode cX4_query 168 = .ok (.if_icmp .ge 23, 3) := dk_162 0 23 (dk_at dksX4_query_7 5 rfl rfl)
theorem dX4_query_171 : decode cX4_query 171 = .ok (.aload_n 0, 1) := dk_42 (dk_at dksX4_query_7 8 rfl rfl)
theorem dX4_query_172 : decode cX4_query 172 = .ok (.getfield 49, 3) := dk_180 0 49 (dk_at dksX4_query_7 9 rfl rfl)
theorem dX4_query_175 : decode cX4_query 175 = .ok (.iload 4, 2) := dk_21 4 (dk_at dksX4_query_7 12 rfl rfl)
theorem dX4_query_177 : decode cX4_query 177 = .ok (.aload_n 0, 1) := dk_42 (dk_at dksX4_query_7 14 rfl rfl)
theorem dX4_query_178 : decode cX4_query 178 = .ok (.getfield 37, 3) := dk_180 0 37 (dk_at dksX4_query_7 15 rfl rfl)
theorem dX4_query_181 : decode cX4_query 181 = .ok (.iload 4, 2) := dk_21 4 (dk_at dksX4_query_7 18 rfl rfl)
theorem dX4_query_183 : decode cX4_query 183 = .ok (.iaload, 1) := dk_46 (dk_at dksX4_query_7 20 rfl rfl)
theorem dX4_query_184 : decode cX4_query 184 = .ok (.iastore, 1) := dk_79 (dk_at dksX4_query_7 21 rfl rfl)
theorem dX4_query_185 : decode cX4_query 185 = .ok (.iinc 4 1, 3) := dk_132 4 1 (dk_at dksX4_query_8 0 rfl rfl)
theorem dX4_query_188 : decode cX4_query 188 = .ok (.goto (-23), 3) := dk_167 255 233 (dk_at dksX4_query_8 3 rfl rfl)
theorem dX4_query_191 : decode cX4_query 191 = .ok (.aload_n 0, 1) := dk_42 (dk_at dksX4_query_8 6 rfl rfl)
theorem dX4_query_192 : decode cX4_query 192 = .ok (.invokevirtual 285, 3) := dk_182 1 29 (dk_at dksX4_query_8 7 rfl rfl)
theorem dX4_query_195 : decode cX4_query 195 = .ok (.ireturn, 1) := dk_172 (dk_at dksX4_query_8 10 rfl rfl)
abbrev cX4_readCondition : ByteArray := prog_17_method_80_code
def yX4_readCondition : MethodName := ⟨RX4, "readCondition", "()V"⟩
def dkwX4_readCondition_7 : List UInt8 := [181, 0, 255, 177]
abbrev dktX4_readCondition_7 : List UInt8 := dkwX4_readCondition_7 ++ []
def dkwX4_readCondition_6 : List UInt8 := [160, 0, 11, 42, 27, 182, 1, 2, 167, 0, 8, 42, 27, 182, 1, 5, 42, 89, 180, 0, 255, 4, 96]
abbrev dktX4_readCondition_6 : List UInt8 := dkwX4_readCondition_6 ++ dktX4_readCondition_7
def dkwX4_readCondition_5 : List UInt8 := [16, 35, 160, 0, 18, 42, 180, 0, 52, 27, 7, 96, 42, 182, 0, 252, 79, 167, 0, 22, 28, 16, 36]
abbrev dktX4_readCondition_5 : List UInt8 := dkwX4_readCondition_5 ++ dktX4_readCondition_6
def dkwX4_readCondition_4 : List UInt8 := [3, 181, 0, 249, 42, 180, 0, 249, 153, 0, 4, 177, 42, 89, 180, 0, 243, 4, 96, 181, 0, 243, 28]
abbrev dktX4_readCondition_4 : List UInt8 := dkwX4_readCondition_4 ++ dktX4_readCondition_5
def dkwX4_readCondition_3 : List UInt8 := [79, 42, 28, 16, 35, 159, 0, 19, 28, 16, 36, 159, 0, 13, 28, 16, 37, 159, 0, 7, 4, 167, 0, 4]
abbrev dktX4_readCondition_3 : List UInt8 := dkwX4_readCondition_3 ++ dktX4_readCondition_4
def dkwX4_readCondition_2 : List UInt8 := [180, 0, 243, 4, 96, 181, 0, 243, 167, 255, 217, 42, 182, 0, 246, 61, 42, 180, 0, 52, 27, 4, 96, 28]
abbrev dktX4_readCondition_2 : List UInt8 := dkwX4_readCondition_2 ++ dktX4_readCondition_3
def dkwX4_readCondition_1 : List UInt8 := [42, 180, 0, 52, 27, 46, 7, 162, 0, 26, 42, 180, 0, 52, 27, 92, 46, 4, 96, 79, 42, 89]
abbrev dktX4_readCondition_1 : List UInt8 := dkwX4_readCondition_1 ++ dktX4_readCondition_2
def dkwX4_readCondition_0 : List UInt8 := [16, 7, 42, 180, 0, 255, 104, 60, 42, 180, 0, 52, 27, 3, 79, 42, 182, 0, 246, 16, 33, 160, 0, 36]
abbrev dktX4_readCondition_0 : List UInt8 := dkwX4_readCondition_0 ++ dktX4_readCondition_1
theorem dksX4_readCondition_0 : cX4_readCondition.data.toList.drop 0 = dktX4_readCondition_0 := by decide +kernel
theorem dksX4_readCondition_1 : cX4_readCondition.data.toList.drop 24 = dktX4_readCondition_1 := dk_seg dksX4_readCondition_0 24 rfl rfl
theorem dksX4_readCondition_2 : cX4_readCondition.data.toList.drop 46 = dktX4_readCondition_2 := dk_seg dksX4_readCondition_1 22 rfl rfl
theorem dksX4_readCondition_3 : cX4_readCondition.data.toList.drop 70 = dktX4_readCondition_3 := dk_seg dksX4_readCondition_2 24 rfl rfl
theorem dksX4_readCondition_4 : cX4_readCondition.data.toList.drop 94 = dktX4_readCondition_4 := dk_seg dksX4_readCondition_3 24 rfl rfl
theorem dksX4_readCondition_5 : cX4_readCondition.data.toList.drop 117 = dktX4_readCondition_5 := dk_seg dksX4_readCondition_4 23 rfl rfl
theorem dksX4_readCondition_6 : cX4_readCondition.data.toList.drop 140 = dktX4_readCondition_6 := dk_seg dksX4_readCondition_5 23 rfl rfl
theorem dksX4_readCondition_7 : cX4_readCondition.data.toList.drop 163 = dktX4_readCondition_7 := dk_seg dksX4_readCondition_6 23 rfl rfl
theorem dX4_readCondition_0 : decode cX4_readCondition 0 = .ok (.bipush 7, 2) := dk_16 7 (dk_at dksX4_readCondition_0 0 rfl rfl)
theorem dX4_readCondition_2 : decode cX4_readCondition 2 = .ok (.aload_n 0, 1) := dk_42 (dk_at dksX4_readCondition_0 2 rfl rfl)
theorem dX4_readCondition_3 : decode cX4_readCondition 3 = .ok (.getfield 255, 3) := dk_180 0 255 (dk_at dksX4_readCondition_0 3 rfl rfl)
theorem dX4_readCondition_6 : decode cX4_readCondition 6 = .ok (.imul, 1) := dk_104 (dk_at dksX4_readCondition_0 6 rfl rfl)
theorem dX4_readCondition_7 : decode cX4_readCondition 7 = .ok (.istore_n 1, 1) := dk_60 (dk_at dksX4_readCondition_0 7 rfl rfl)
theorem dX4_readCondition_8 : decode cX4_readCondition 8 = .ok (.aload_n 0, 1) := dk_42 (dk_at dksX4_readCondition_0 8 rfl rfl)
theorem dX4_readCondition_9 : decode cX4_readCondition 9 = .ok (.getfield 52, 3) := dk_180 0 52 (dk_at dksX4_readCondition_0 9 rfl rfl)
theorem dX4_readCondition_12 : decode cX4_readCondition 12 = .ok (.iload_n 1, 1) := dk_27 (dk_at dksX4_readCondition_0 12 rfl rfl)
theorem dX4_readCondition_13 : decode cX4_readCondition 13 = .ok (.iconst 0, 1) := dk_3 (dk_at dksX4_readCondition_0 13 rfl rfl)
theorem dX4_readCondition_14 : decode cX4_readCondition 14 = .ok (.iastore, 1) := dk_79 (dk_at dksX4_readCondition_0 14 rfl rfl)
theorem dX4_readCondition_15 : decode cX4_readCondition 15 = .ok (.aload_n 0, 1) := dk_42 (dk_at dksX4_readCondition_0 15 rfl rfl)
theorem dX4_readCondition_16 : decode cX4_readCondition 16 = .ok (.invokevirtual 246, 3) := dk_182 0 246 (dk_at dksX4_readCondition_0 16 rfl rfl)
theorem dX4_readCondition_19 : decode cX4_readCondition 19 = .ok (.bipush 33, 2) := dk_16 33 (dk_at dksX4_readCondition_0 19 rfl rfl)
theorem dX4_readCondition_21 : decode cX4_readCondition 21 = .ok (.if_icmp .ne 36, 3) := dk_160 0 36 (dk_at dksX4_readCondition_0 21 rfl rfl)
theorem dX4_readCondition_24 : decode cX4_readCondition 24 = .ok (.aload_n 0, 1) := dk_42 (dk_at dksX4_readCondition_1 0 rfl rfl)
theorem dX4_readCondition_25 : decode cX4_readCondition 25 = .ok (.getfield 52, 3) := dk_180 0 52 (dk_at dksX4_readCondition_1 1 rfl rfl)
theorem dX4_readCondition_28 : decode cX4_readCondition 28 = .ok (.iload_n 1, 1) := dk_27 (dk_at dksX4_readCondition_1 4 rfl rfl)
theorem dX4_readCondition_29 : decode cX4_readCondition 29 = .ok (.iaload, 1) := dk_46 (dk_at dksX4_readCondition_1 5 rfl rfl)
theorem dX4_readCondition_30 : decode cX4_readCondition 30 = .ok (.iconst 4, 1) := dk_7 (dk_at dksX4_readCondition_1 6 rfl rfl)
theorem dX4_readCondition_31 : decode cX4_readCondition 31 = .ok (.if_icmp .ge 26, 3) := dk_162 0 26 (dk_at dksX4_readCondition_1 7 rfl rfl)
theorem dX4_readCondition_34 : decode cX4_readCondition 34 = .ok (.aload_n 0, 1) := dk_42 (dk_at dksX4_readCondition_1 10 rfl rfl)
theorem dX4_readCondition_35 : decode cX4_readCondition 35 = .ok (.getfield 52, 3) := dk_180 0 52 (dk_at dksX4_readCondition_1 11 rfl rfl)
theorem dX4_readCondition_38 : decode cX4_readCondition 38 = .ok (.iload_n 1, 1) := dk_27 (dk_at dksX4_readCondition_1 14 rfl rfl)
theorem dX4_readCondition_39 : decode cX4_readCondition 39 = .ok (.dup2, 1) := dk_92 (dk_at dksX4_readCondition_1 15 rfl rfl)
theorem dX4_readCondition_40 : decode cX4_readCondition 40 = .ok (.iaload, 1) := dk_46 (dk_at dksX4_readCondition_1 16 rfl rfl)
theorem dX4_readCondition_41 : decode cX4_readCondition 41 = .ok (.iconst 1, 1) := dk_4 (dk_at dksX4_readCondition_1 17 rfl rfl)
theorem dX4_readCondition_42 : decode cX4_readCondition 42 = .ok (.iadd, 1) := dk_96 (dk_at dksX4_readCondition_1 18 rfl rfl)
theorem dX4_readCondition_43 : decode cX4_readCondition 43 = .ok (.iastore, 1) := dk_79 (dk_at dksX4_readCondition_1 19 rfl rfl)
theorem dX4_readCondition_44 : decode cX4_readCondition 44 = .ok (.aload_n 0, 1) := dk_42 (dk_at dksX4_readCondition_1 20 rfl rfl)
theorem dX4_readCondition_45 : decode cX4_readCondition 45 = .ok (.dup, 1) := dk_89 (dk_at dksX4_readCondition_1 21 rfl rfl)
theorem dX4_readCondition_46 : decode cX4_readCondition 46 = .ok (.getfield 243, 3) := dk_180 0 243 (dk_at dksX4_readCondition_2 0 rfl rfl)
theorem dX4_readCondition_49 : decode cX4_readCondition 49 = .ok (.iconst 1, 1) := dk_4 (dk_at dksX4_readCondition_2 3 rfl rfl)
theorem dX4_readCondition_50 : decode cX4_readCondition 50 = .ok (.iadd, 1) := dk_96 (dk_at dksX4_readCondition_2 4 rfl rfl)
theorem dX4_readCondition_51 : decode cX4_readCondition 51 = .ok (.putfield 243, 3) := dk_181 0 243 (dk_at dksX4_readCondition_2 5 rfl rfl)
theorem dX4_readCondition_54 : decode cX4_readCondition 54 = .ok (.goto (-39), 3) := dk_167 255 217 (dk_at dksX4_readCondition_2 8 rfl rfl)
theorem dX4_readCondition_57 : decode cX4_readCondition 57 = .ok (.aload_n 0, 1) := dk_42 (dk_at dksX4_readCondition_2 11 rfl rfl)
theorem dX4_readCondition_58 : decode cX4_readCondition 58 = .ok (.invokevirtual 246, 3) := dk_182 0 246 (dk_at dksX4_readCondition_2 12 rfl rfl)
theorem dX4_readCondition_61 : decode cX4_readCondition 61 = .ok (.istore_n 2, 1) := dk_61 (dk_at dksX4_readCondition_2 15 rfl rfl)
theorem dX4_readCondition_62 : decode cX4_readCondition 62 = .ok (.aload_n 0, 1) := dk_42 (dk_at dksX4_readCondition_2 16 rfl rfl)
theorem dX4_readCondition_63 : decode cX4_readCondition 63 = .ok (.getfield 52, 3) := dk_180 0 52 (dk_at dksX4_readCondition_2 17 rfl rfl)
theorem dX4_readCondition_66 : decode cX4_readCondition 66 = .ok (.iload_n 1, 1) := dk_27 (dk_at dksX4_readCondition_2 20 rfl rfl)
theorem dX4_readCondition_67 : decode cX4_readCondition 67 = .ok (.iconst 1, 1) := dk_4 (dk_at dksX4_readCondition_2 21 rfl rfl)
theorem dX4_readCondition_68 : decode cX4_readCondition 68 = .ok (.iadd, 1) := dk_96 (dk_at dksX4_readCondition_2 22 rfl rfl)
theorem dX4_readCondition_69 : decode cX4_readCondition 69 = .ok (.iload_n 2, 1) := dk_28 (dk_at dksX4_readCondition_2 23 rfl rfl)
theorem dX4_readCondition_70 : decode cX4_readCondition 70 = .ok (.iastore, 1) := dk_79 (dk_at dksX4_readCondition_3 0 rfl rfl)
theorem dX4_readCondition_71 : decode cX4_readCondition 71 = .ok (.aload_n 0, 1) := dk_42 (dk_at dksX4_readCondition_3 1 rfl rfl)
theorem dX4_readCondition_72 : decode cX4_readCondition 72 = .ok (.iload_n 2, 1) := dk_28 (dk_at dksX4_readCondition_3 2 rfl rfl)
theorem dX4_readCondition_73 : decode cX4_readCondition 73 = .ok (.bipush 35, 2) := dk_16 35 (dk_at dksX4_readCondition_3 3 rfl rfl)
theorem dX4_readCondition_75 : decode cX4_readCondition 75 = .ok (.if_icmp .eq 19, 3) := dk_159 0 19 (dk_at dksX4_readCondition_3 5 rfl rfl)
theorem dX4_readCondition_78 : decode cX4_readCondition 78 = .ok (.iload_n 2, 1) := dk_28 (dk_at dksX4_readCondition_3 8 rfl rfl)
theorem dX4_readCondition_79 : decode cX4_readCondition 79 = .ok (.bipush 36, 2) := dk_16 36 (dk_at dksX4_readCondition_3 9 rfl rfl)
theorem dX4_readCondition_81 : decode cX4_readCondition 81 = .ok (.if_icmp .eq 13, 3) := dk_159 0 13 (dk_at dksX4_readCondition_3 11 rfl rfl)
theorem dX4_readCondition_84 : decode cX4_readCondition 84 = .ok (.iload_n 2, 1) := dk_28 (dk_at dksX4_readCondition_3 14 rfl rfl)
theorem dX4_readCondition_85 : decode cX4_readCondition 85 = .ok (.bipush 37, 2) := dk_16 37 (dk_at dksX4_readCondition_3 15 rfl rfl)
theorem dX4_readCondition_87 : decode cX4_readCondition 87 = .ok (.if_icmp .eq 7, 3) := dk_159 0 7 (dk_at dksX4_readCondition_3 17 rfl rfl)
theorem dX4_readCondition_90 : decode cX4_readCondition 90 = .ok (.iconst 1, 1) := dk_4 (dk_at dksX4_readCondition_3 20 rfl rfl)
theorem dX4_readCondition_91 : decode cX4_readCondition 91 = .ok (.goto 4, 3) := dk_167 0 4 (dk_at dksX4_readCondition_3 21 rfl rfl)
theorem dX4_readCondition_94 : decode cX4_readCondition 94 = .ok (.iconst 0, 1) := dk_3 (dk_at dksX4_readCondition_4 0 rfl rfl)
theorem dX4_readCondition_95 : decode cX4_readCondition 95 = .ok (.putfield 249, 3) := dk_181 0 249 (dk_at dksX4_readCondition_4 1 rfl rfl)
theorem dX4_readCondition_98 : decode cX4_readCondition 98 = .ok (.aload_n 0, 1) := dk_42 (dk_at dksX4_readCondition_4 4 rfl rfl)
theorem dX4_readCondition_99 : decode cX4_readCondition 99 = .ok (.getfield 249, 3) := dk_180 0 249 (dk_at dksX4_readCondition_4 5 rfl rfl)
theorem dX4_readCondition_102 : decode cX4_readCondition 102 = .ok (.ifCond .eq 4, 3) := dk_153 0 4 (dk_at dksX4_readCondition_4 8 rfl rfl)
theorem dX4_readCondition_105 : decode cX4_readCondition 105 = .ok (.return_, 1) := dk_177 (dk_at dksX4_readCondition_4 11 rfl rfl)
theorem dX4_readCondition_106 : decode cX4_readCondition 106 = .ok (.aload_n 0, 1) := dk_42 (dk_at dksX4_readCondition_4 12 rfl rfl)
theorem dX4_readCondition_107 : decode cX4_readCondition 107 = .ok (.dup, 1) := dk_89 (dk_at dksX4_readCondition_4 13 rfl rfl)
theorem dX4_readCondition_108 : decode cX4_readCondition 108 = .ok (.getfield 243, 3) := dk_180 0 243 (dk_at dksX4_readCondition_4 14 rfl rfl)
theorem dX4_readCondition_111 : decode cX4_readCondition 111 = .ok (.iconst 1, 1) := dk_4 (dk_at dksX4_readCondition_4 17 rfl rfl)
theorem dX4_readCondition_112 : decode cX4_readCondition 112 = .ok (.iadd, 1) := dk_96 (dk_at dksX4_readCondition_4 18 rfl rfl)
theorem dX4_readCondition_113 : decode cX4_readCondition 113 = .ok (.putfield 243, 3) := dk_181 0 243 (dk_at dksX4_readCondition_4 19 rfl rfl)
theorem dX4_readCondition_116 : decode cX4_readCondition 116 = .ok (.iload_n 2, 1) := dk_28 (dk_at dksX4_readCondition_4 22 rfl rfl)
theorem dX4_readCondition_117 : decode cX4_readCondition 117 = .ok (.bipush 35, 2) := dk_16 35 (dk_at dksX4_readCondition_5 0 rfl rfl)
theorem dX4_readCondition_119 : decode cX4_readCondition 119 = .ok (.if_icmp .ne 18, 3) := dk_160 0 18 (dk_at dksX4_readCondition_5 2 rfl rfl)
theorem dX4_readCondition_122 : decode cX4_readCondition 122 = .ok (.aload_n 0, 1) := dk_42 (dk_at dksX4_readCondition_5 5 rfl rfl)
theorem dX4_readCondition_123 : decode cX4_readCondition 123 = .ok (.getfield 52, 3) := dk_180 0 52 (dk_at dksX4_readCondition_5 6 rfl rfl)
theorem dX4_readCondition_126 : decode cX4_readCondition 126 = .ok (.iload_n 1, 1) := dk_27 (dk_at dksX4_readCondition_5 9 rfl rfl)
theorem dX4_readCondition_127 : decode cX4_readCondition 127 = .ok (.iconst 4, 1) := dk_7 (dk_at dksX4_readCondition_5 10 rfl rfl)
theorem dX4_readCondition_128 : decode cX4_readCondition 128 = .ok (.iadd, 1) := dk_96 (dk_at dksX4_readCondition_5 11 rfl rfl)
theorem dX4_readCondition_129 : decode cX4_readCondition 129 = .ok (.aload_n 0, 1) := dk_42 (dk_at dksX4_readCondition_5 12 rfl rfl)
theorem dX4_readCondition_130 : decode cX4_readCondition 130 = .ok (.invokevirtual 252, 3) := dk_182 0 252 (dk_at dksX4_readCondition_5 13 rfl rfl)
theorem dX4_readCondition_133 : decode cX4_readCondition 133 = .ok (.iastore, 1) := dk_79 (dk_at dksX4_readCondition_5 16 rfl rfl)
theorem dX4_readCondition_134 : decode cX4_readCondition 134 = .ok (.goto 22, 3) := dk_167 0 22 (dk_at dksX4_readCondition_5 17 rfl rfl)
theorem dX4_readCondition_137 : decode cX4_readCondition 137 = .ok (.iload_n 2, 1) := dk_28 (dk_at dksX4_readCondition_5 20 rfl rfl)
theorem dX4_readCondition_138 : decode cX4_readCondition 138 = .ok (.bipush 36, 2) := dk_16 36 (dk_at dksX4_readCondition_5 21 rfl rfl)
theorem dX4_readCondition_140 : decode cX4_readCondition 140 = .ok (.if_icmp .ne 11, 3) := dk_160 0 11 (dk_at dksX4_readCondition_6 0 rfl rfl)
theorem dX4_readCondition_143 : decode cX4_readCondition 143 = .ok (.aload_n 0, 1) := dk_42 (dk_at dksX4_readCondition_6 3 rfl rfl)
theorem dX4_readCondition_144 : decode cX4_readCondition 144 = .ok (.iload_n 1, 1) := dk_27 (dk_at dksX4_readCondition_6 4 rfl rfl)
theorem dX4_readCondition_145 : decode cX4_readCondition 145 = .ok (.invokevirtual 258, 3) := dk_182 1 2 (dk_at dksX4_readCondition_6 5 rfl rfl)
theorem dX4_readCondition_148 : decode cX4_readCondition 148 = .ok (.goto 8, 3) := dk_167 0 8 (dk_at dksX4_readCondition_6 8 rfl rfl)
theorem dX4_readCondition_151 : decode cX4_readCondition 151 = .ok (.aload_n 0, 1) := dk_42 (dk_at dksX4_readCondition_6 11 rfl rfl)
theorem dX4_readCondition_152 : decode cX4_readCondition 152 = .ok (.iload_n 1, 1) := dk_27 (dk_at dksX4_readCondition_6 12 rfl rfl)
theorem dX4_readCondition_153 : decode cX4_readCondition 153 = .ok (.invokevirtual 261, 3) := dk_182 1 5 (dk_at dksX4_readCondition_6 13 rfl rfl)
theorem dX4_readCondition_156 : decode cX4_readCondition 156 = .ok (.aload_n 0, 1) := dk_42 (dk_at dksX4_readCondition_6 16 rfl rfl)
theorem dX4_readCondition_157 : decode cX4_readCondition 157 = .ok (.dup, 1) := dk_89 (dk_at dksX4_readCondition_6 17 rfl rfl)
theorem dX4_readCondition_158 : decode cX4_readCondition 158 = .ok (.getfield 255, 3) := dk_180 0 255 (dk_at dksX4_readCondition_6 18 rfl rfl)
theorem dX4_readCondition_161 : decode cX4_readCondition 161 = .ok (.iconst 1, 1) := dk_4 (dk_at dksX4_readCondition_6 21 rfl rfl)
theorem dX4_readCondition_162 : decode cX4_readCondition 162 = .ok (.iadd, 1) := dk_96 (dk_at dksX4_readCondition_6 22 rfl rfl)
theorem dX4_readCondition_163 : decode cX4_readCondition 163 = .ok (.putfield 255, 3) := dk_181 0 255 (dk_at dksX4_readCondition_7 0 rfl rfl)
theorem dX4_readCondition_166 : decode cX4_readCondition 166 = .ok (.return_, 1) := dk_177 (dk_at dksX4_readCondition_7 3 rfl rfl)
abbrev cX4_here : ByteArray := prog_17_method_76_code
def yX4_here : MethodName := ⟨RX4, "here", "()I"⟩
def dkwX4_here_1 : List UInt8 := [172]
abbrev dktX4_here_1 : List UInt8 := dkwX4_here_1 ++ []
def dkwX4_here_0 : List UInt8 := [42, 180, 0, 243, 42, 180, 0, 119, 162, 0, 15, 42, 180, 0, 37, 42, 180, 0, 243, 46, 167, 0, 4, 2]
abbrev dktX4_here_0 : List UInt8 := dkwX4_here_0 ++ dktX4_here_1
theorem dksX4_here_0 : cX4_here.data.toList.drop 0 = dktX4_here_0 := by decide +kernel
theorem dksX4_here_1 : cX4_here.data.toList.drop 24 = dktX4_here_1 := dk_seg dksX4_here_0 24 rfl rfl
theorem dX4_here_0 : decode cX4_here 0 = .ok (.aload_n 0, 1) := dk_42 (dk_at dksX4_here_0 0 rfl rfl)
theorem dX4_here_1 : decode cX4_here 1 = .ok (.getfield 243, 3) := dk_180 0 243 (dk_at dksX4_here_0 1 rfl rfl)
theorem dX4_here_4 : decode cX4_here 4 = .ok (.aload_n 0, 1) := dk_42 (dk_at dksX4_here_0 4 rfl rfl)
theorem dX4_here_5 : decode cX4_here 5 = .ok (.getfield 119, 3) := dk_180 0 119 (dk_at dksX4_here_0 5 rfl rfl)
theorem dX4_here_8 : decode cX4_here 8 = .ok (.if_icmp .ge 15, 3) := dk_162 0 15 (dk_at dksX4_here_0 8 rfl rfl)
theorem dX4_here_11 : decode cX4_here 11 = .ok (.aload_n 0, 1) := dk_42 (dk_at dksX4_here_0 11 rfl rfl)
theorem dX4_here_12 : decode cX4_here 12 = .ok (.getfield 37, 3) := dk_180 0 37 (dk_at dksX4_here_0 12 rfl rfl)
theorem dX4_here_15 : decode cX4_here 15 = .ok (.aload_n 0, 1) := dk_42 (dk_at dksX4_here_0 15 rfl rfl)
theorem dX4_here_16 : decode cX4_here 16 = .ok (.getfield 243, 3) := dk_180 0 243 (dk_at dksX4_here_0 16 rfl rfl)
theorem dX4_here_19 : decode cX4_here 19 = .ok (.iaload, 1) := dk_46 (dk_at dksX4_here_0 19 rfl rfl)
theorem dX4_here_20 : decode cX4_here 20 = .ok (.goto 4, 3) := dk_167 0 4 (dk_at dksX4_here_0 20 rfl rfl)
theorem dX4_here_23 : decode cX4_here 23 = .ok (.iconst (-1), 1) := dk_2 (dk_at dksX4_here_0 23 rfl rfl)
theorem dX4_here_24 : decode cX4_here 24 = .ok (.ireturn, 1) := dk_172 (dk_at dksX4_here_1 0 rfl rfl)
abbrev cX4_number : ByteArray := prog_17_method_77_code
def yX4_number : MethodName := ⟨RX4, "number", "()I"⟩
def dkwX4_number_4 : List UInt8 := [153, 0, 8, 28, 116, 167, 0, 4, 28, 172]
abbrev dktX4_number_4 : List UInt8 := dkwX4_number_4 ++ []
def dkwX4_number_3 : List UInt8 := [96, 181, 0, 243, 132, 3, 1, 167, 255, 214, 42, 29, 154, 0, 7, 4, 167, 0, 4, 3, 181, 0, 249, 27]
abbrev dktX4_number_3 : List UInt8 := dkwX4_number_3 ++ dktX4_number_4
def dkwX4_number_2 : List UInt8 := [16, 6, 162, 0, 32, 16, 10, 28, 104, 42, 182, 0, 246, 96, 16, 48, 100, 61, 42, 89, 180, 0, 243, 4]
abbrev dktX4_number_2 : List UInt8 := dkwX4_number_2 ++ dktX4_number_3
def dkwX4_number_1 : List UInt8 := [4, 167, 0, 4, 3, 96, 181, 0, 243, 3, 61, 3, 62, 42, 182, 0, 246, 184, 0, 84, 153, 0, 38, 29]
abbrev dktX4_number_1 : List UInt8 := dkwX4_number_1 ++ dktX4_number_2
def dkwX4_number_0 : List UInt8 := [42, 182, 0, 246, 16, 45, 160, 0, 7, 4, 167, 0, 4, 3, 60, 42, 89, 180, 0, 243, 27, 153, 0, 7]
abbrev dktX4_number_0 : List UInt8 := dkwX4_number_0 ++ dktX4_number_1
theorem dksX4_number_0 : cX4_number.data.toList.drop 0 = dktX4_number_0 := by decide +kernel
theorem dksX4_number_1 : cX4_number.data.toList.drop 24 = dktX4_number_1 := dk_seg dksX4_number_0 24 rfl rfl
theorem dksX4_number_2 : cX4_number.data.toList.drop 48 = dktX4_number_2 := dk_seg dksX4_number_1 24 rfl rfl
theorem dksX4_number_3 : cX4_number.data.toList.drop 72 = dktX4_number_3 := dk_seg dksX4_number_2 24 rfl rfl
theorem dksX4_number_4 : cX4_number.data.toList.drop 96 = dktX4_number_4 := dk_seg dksX4_number_3 24 rfl rfl
theorem dX4_number_0 : decode cX4_number 0 = .ok (.aload_n 0, 1) := dk_42 (dk_at dksX4_number_0 0 rfl rfl)
theorem dX4_number_1 : decode cX4_number 1 = .ok (.invokevirtual 246, 3) := dk_182 0 246 (dk_at dksX4_number_0 1 rfl rfl)
theorem dX4_number_4 : decode cX4_number 4 = .ok (.bipush 45, 2) := dk_16 45 (dk_at dksX4_number_0 4 rfl rfl)
theorem dX4_number_6 : decode cX4_number 6 = .ok (.if_icmp .ne 7, 3) := dk_160 0 7 (dk_at dksX4_number_0 6 rfl rfl)
theorem dX4_number_9 : decode cX4_number 9 = .ok (.iconst 1, 1) := dk_4 (dk_at dksX4_number_0 9 rfl rfl)
theorem dX4_number_10 : decode cX4_number 10 = .ok (.goto 4, 3) := dk_167 0 4 (dk_at dksX4_number_0 10 rfl rfl)
theorem dX4_number_13 : decode cX4_number 13 = .ok (.iconst 0, 1) := dk_3 (dk_at dksX4_number_0 13 rfl rfl)
theorem dX4_number_14 : decode cX4_number 14 = .ok (.istore_n 1, 1) := dk_60 (dk_at dksX4_number_0 14 rfl rfl)
theorem dX4_number_15 : decode cX4_number 15 = .ok (.aload_n 0, 1) := dk_42 (dk_at dksX4_number_0 15 rfl rfl)
theorem dX4_number_16 : decode cX4_number 16 = .ok (.dup, 1) := dk_89 (dk_at dksX4_number_0 16 rfl rfl)
theorem dX4_number_17 : decode cX4_number 17 = .ok (.getfield 243, 3) := dk_180 0 243 (dk_at dksX4_number_0 17 rfl rfl)
theorem dX4_number_20 : decode cX4_number 20 = .ok (.iload_n 1, 1) := dk_27 (dk_at dksX4_number_0 20 rfl rfl)
theorem dX4_number_21 : decode cX4_number 21 = .ok (.ifCond .eq 7, 3) := dk_153 0 7 (dk_at dksX4_number_0 21 rfl rfl)
theorem dX4_number_24 : decode cX4_number 24 = .ok (.iconst 1, 1) := dk_4 (dk_at dksX4_number_1 0 rfl rfl)
theorem dX4_number_25 : decode cX4_number 25 = .ok (.goto 4, 3) := dk_167 0 4 (dk_at dksX4_number_1 1 rfl rfl)
theorem dX4_number_28 : decode cX4_number 28 = .ok (.iconst 0, 1) := dk_3 (dk_at dksX4_number_1 4 rfl rfl)
theorem dX4_number_29 : decode cX4_number 29 = .ok (.iadd, 1) := dk_96 (dk_at dksX4_number_1 5 rfl rfl)
theorem dX4_number_30 : decode cX4_number 30 = .ok (.putfield 243, 3) := dk_181 0 243 (dk_at dksX4_number_1 6 rfl rfl)
theorem dX4_number_33 : decode cX4_number 33 = .ok (.iconst 0, 1) := dk_3 (dk_at dksX4_number_1 9 rfl rfl)
theorem dX4_number_34 : decode cX4_number 34 = .ok (.istore_n 2, 1) := dk_61 (dk_at dksX4_number_1 10 rfl rfl)
theorem dX4_number_35 : decode cX4_number 35 = .ok (.iconst 0, 1) := dk_3 (dk_at dksX4_number_1 11 rfl rfl)
theorem dX4_number_36 : decode cX4_number 36 = .ok (.istore_n 3, 1) := dk_62 (dk_at dksX4_number_1 12 rfl rfl)
theorem dX4_number_37 : decode cX4_number 37 = .ok (.aload_n 0, 1) := dk_42 (dk_at dksX4_number_1 13 rfl rfl)
theorem dX4_number_38 : decode cX4_number 38 = .ok (.invokevirtual 246, 3) := dk_182 0 246 (dk_at dksX4_number_1 14 rfl rfl)
theorem dX4_number_41 : decode cX4_number 41 = .ok (.invokestatic 84, 3) := dk_184 0 84 (dk_at dksX4_number_1 17 rfl rfl)
theorem dX4_number_44 : decode cX4_number 44 = .ok (.ifCond .eq 38, 3) := dk_153 0 38 (dk_at dksX4_number_1 20 rfl rfl)
theorem dX4_number_47 : decode cX4_number 47 = .ok (.iload_n 3, 1) := dk_29 (dk_at dksX4_number_1 23 rfl rfl)
theorem dX4_number_48 : decode cX4_number 48 = .ok (.bipush 6, 2) := dk_16 6 (dk_at dksX4_number_2 0 rfl rfl)
theorem dX4_number_50 : decode cX4_number 50 = .ok (.if_icmp .ge 32, 3) := dk_162 0 32 (dk_at dksX4_number_2 2 rfl rfl)
theorem dX4_number_53 : decode cX4_number 53 = .ok (.bipush 10, 2) := dk_16 10 (dk_at dksX4_number_2 5 rfl rfl)
theorem dX4_number_55 : decode cX4_number 55 = .ok (.iload_n 2, 1) := dk_28 (dk_at dksX4_number_2 7 rfl rfl)
theorem dX4_number_56 : decode cX4_number 56 = .ok (.imul, 1) := dk_104 (dk_at dksX4_number_2 8 rfl rfl)
theorem dX4_number_57 : decode cX4_number 57 = .ok (.aload_n 0, 1) := dk_42 (dk_at dksX4_number_2 9 rfl rfl)
theorem dX4_number_58 : decode cX4_number 58 = .ok (.invokevirtual 246, 3) := dk_182 0 246 (dk_at dksX4_number_2 10 rfl rfl)
theorem dX4_number_61 : decode cX4_number 61 = .ok (.iadd, 1) := dk_96 (dk_at dksX4_number_2 13 rfl rfl)
theorem dX4_number_62 : decode cX4_number 62 = .ok (.bipush 48, 2) := dk_16 48 (dk_at dksX4_number_2 14 rfl rfl)
theorem dX4_number_64 : decode cX4_number 64 = .ok (.isub, 1) := dk_100 (dk_at dksX4_number_2 16 rfl rfl)
theorem dX4_number_65 : decode cX4_number 65 = .ok (.istore_n 2, 1) := dk_61 (dk_at dksX4_number_2 17 rfl rfl)
theorem dX4_number_66 : decode cX4_number 66 = .ok (.aload_n 0, 1) := dk_42 (dk_at dksX4_number_2 18 rfl rfl)
theorem dX4_number_67 : decode cX4_number 67 = .ok (.dup, 1) := dk_89 (dk_at dksX4_number_2 19 rfl rfl)
theorem dX4_number_68 : decode cX4_number 68 = .ok (.getfield 243, 3) := dk_180 0 243 (dk_at dksX4_number_2 20 rfl rfl)
theorem dX4_number_71 : decode cX4_number 71 = .ok (.iconst 1, 1) := dk_4 (dk_at dksX4_number_2 23 rfl rfl)
theorem dX4_number_72 : decode cX4_number 72 = .ok (.iadd, 1) := dk_96 (dk_at dksX4_number_3 0 rfl rfl)
theorem dX4_number_73 : decode cX4_number 73 = .ok (.putfield 243, 3) := dk_181 0 243 (dk_at dksX4_number_3 1 rfl rfl)
theorem dX4_number_76 : decode cX4_number 76 = .ok (.iinc 3 1, 3) := dk_132 3 1 (dk_at dksX4_number_3 4 rfl rfl)
theorem dX4_number_79 : decode cX4_number 79 = .ok (.goto (-42), 3) := dk_167 255 214 (dk_at dksX4_number_3 7 rfl rfl)
theorem dX4_number_82 : decode cX4_number 82 = .ok (.aload_n 0, 1) := dk_42 (dk_at dksX4_number_3 10 rfl rfl)
theorem dX4_number_83 : decode cX4_number 83 = .ok (.iload_n 3, 1) := dk_29 (dk_at dksX4_number_3 11 rfl rfl)
theorem dX4_number_84 : decode cX4_number 84 = .ok (.ifCond .ne 7, 3) := dk_154 0 7 (dk_at dksX4_number_3 12 rfl rfl)
theorem dX4_number_87 : decode cX4_number 87 = .ok (.iconst 1, 1) := dk_4 (dk_at dksX4_number_3 15 rfl rfl)
theorem dX4_number_88 : decode cX4_number 88 = .ok (.goto 4, 3) := dk_167 0 4 (dk_at dksX4_number_3 16 rfl rfl)
theorem dX4_number_91 : decode cX4_number 91 = .ok (.iconst 0, 1) := dk_3 (dk_at dksX4_number_3 19 rfl rfl)
theorem dX4_number_92 : decode cX4_number 92 = .ok (.putfield 249, 3) := dk_181 0 249 (dk_at dksX4_number_3 20 rfl rfl)
theorem dX4_number_95 : decode cX4_number 95 = .ok (.iload_n 1, 1) := dk_27 (dk_at dksX4_number_3 23 rfl rfl)
theorem dX4_number_96 : decode cX4_number 96 = .ok (.ifCond .eq 8, 3) := dk_153 0 8 (dk_at dksX4_number_4 0 rfl rfl)
theorem dX4_number_99 : decode cX4_number 99 = .ok (.iload_n 2, 1) := dk_28 (dk_at dksX4_number_4 3 rfl rfl)
theorem dX4_number_100 : decode cX4_number 100 = .ok (.ineg, 1) := dk_116 (dk_at dksX4_number_4 4 rfl rfl)
theorem dX4_number_101 : decode cX4_number 101 = .ok (.goto 4, 3) := dk_167 0 4 (dk_at dksX4_number_4 5 rfl rfl)
theorem dX4_number_104 : decode cX4_number 104 = .ok (.iload_n 2, 1) := dk_28 (dk_at dksX4_number_4 8 rfl rfl)
theorem dX4_number_105 : decode cX4_number 105 = .ok (.ireturn, 1) := dk_172 (dk_at dksX4_number_4 9 rfl rfl)
abbrev cX4_readWord : ByteArray := prog_17_method_78_code
def yX4_readWord : MethodName := ⟨RX4, "readWord", "(I)V"⟩
def dkwX4_readWord_3 : List UInt8 := [180, 0, 52, 27, 8, 96, 46, 160, 0, 7, 4, 167, 0, 4, 3, 181, 0, 249, 177]
abbrev dktX4_readWord_3 : List UInt8 := dkwX4_readWord_3 ++ []
def dkwX4_readWord_2 : List UInt8 := [167, 255, 223, 42, 180, 0, 52, 27, 16, 6, 96, 42, 180, 0, 243, 79, 42, 42, 180, 0, 243, 42]
abbrev dktX4_readWord_2 : List UInt8 := dkwX4_readWord_2 ++ dktX4_readWord_3
def dkwX4_readWord_1 : List UInt8 := [153, 0, 25, 42, 182, 0, 246, 16, 38, 159, 0, 16, 42, 89, 180, 0, 243, 4, 96, 181, 0, 243]
abbrev dktX4_readWord_1 : List UInt8 := dkwX4_readWord_1 ++ dktX4_readWord_2
def dkwX4_readWord_0 : List UInt8 := [42, 180, 0, 52, 27, 8, 96, 42, 180, 0, 243, 79, 42, 182, 0, 246, 16, 33, 16, 126, 184, 0, 59]
abbrev dktX4_readWord_0 : List UInt8 := dkwX4_readWord_0 ++ dktX4_readWord_1
theorem dksX4_readWord_0 : cX4_readWord.data.toList.drop 0 = dktX4_readWord_0 := by decide +kernel
theorem dksX4_readWord_1 : cX4_readWord.data.toList.drop 23 = dktX4_readWord_1 := dk_seg dksX4_readWord_0 23 rfl rfl
theorem dksX4_readWord_2 : cX4_readWord.data.toList.drop 45 = dktX4_readWord_2 := dk_seg dksX4_readWord_1 22 rfl rfl
theorem dksX4_readWord_3 : cX4_readWord.data.toList.drop 67 = dktX4_readWord_3 := dk_seg dksX4_readWord_2 22 rfl rfl
theorem dX4_readWord_0 : decode cX4_readWord 0 = .ok (.aload_n 0, 1) := dk_42 (dk_at dksX4_readWord_0 0 rfl rfl)
theorem dX4_readWord_1 : decode cX4_readWord 1 = .ok (.getfield 52, 3) := dk_180 0 52 (dk_at dksX4_readWord_0 1 rfl rfl)
theorem dX4_readWord_4 : decode cX4_readWord 4 = .ok (.iload_n 1, 1) := dk_27 (dk_at dksX4_readWord_0 4 rfl rfl)
theorem dX4_readWord_5 : decode cX4_readWord 5 = .ok (.iconst 5, 1) := dk_8 (dk_at dksX4_readWord_0 5 rfl rfl)
theorem dX4_readWord_6 : decode cX4_readWord 6 = .ok (.iadd, 1) := dk_96 (dk_at dksX4_readWord_0 6 rfl rfl)
theorem dX4_readWord_7 : decode cX4_readWord 7 = .ok (.aload_n 0, 1) := dk_42 (dk_at dksX4_readWord_0 7 rfl rfl)
theorem dX4_readWord_8 : decode cX4_readWord 8 = .ok (.getfield 243, 3) := dk_180 0 243 (dk_at dksX4_readWord_0 8 rfl rfl)
theorem dX4_readWord_11 : decode cX4_readWord 11 = .ok (.iastore, 1) := dk_79 (dk_at dksX4_readWord_0 11 rfl rfl)
theorem dX4_readWord_12 : decode cX4_readWord 12 = .ok (.aload_n 0, 1) := dk_42 (dk_at dksX4_readWord_0 12 rfl rfl)
theorem dX4_readWord_13 : decode cX4_readWord 13 = .ok (.invokevirtual 246, 3) := dk_182 0 246 (dk_at dksX4_readWord_0 13 rfl rfl)
theorem dX4_readWord_16 : decode cX4_readWord 16 = .ok (.bipush 33, 2) := dk_16 33 (dk_at dksX4_readWord_0 16 rfl rfl)
theorem dX4_readWord_18 : decode cX4_readWord 18 = .ok (.bipush 126, 2) := dk_16 126 (dk_at dksX4_readWord_0 18 rfl rfl)
theorem dX4_readWord_20 : decode cX4_readWord 20 = .ok (.invokestatic 59, 3) := dk_184 0 59 (dk_at dksX4_readWord_0 20 rfl rfl)
theorem dX4_readWord_23 : decode cX4_readWord 23 = .ok (.ifCond .eq 25, 3) := dk_153 0 25 (dk_at dksX4_readWord_1 0 rfl rfl)
theorem dX4_readWord_26 : decode cX4_readWord 26 = .ok (.aload_n 0, 1) := dk_42 (dk_at dksX4_readWord_1 3 rfl rfl)
theorem dX4_readWord_27 : decode cX4_readWord 27 = .ok (.invokevirtual 246, 3) := dk_182 0 246 (dk_at dksX4_readWord_1 4 rfl rfl)
theorem dX4_readWord_30 : decode cX4_readWord 30 = .ok (.bipush 38, 2) := dk_16 38 (dk_at dksX4_readWord_1 7 rfl rfl)
theorem dX4_readWord_32 : decode cX4_readWord 32 = .ok (.if_icmp .eq 16, 3) := dk_159 0 16 (dk_at dksX4_readWord_1 9 rfl rfl)
theorem dX4_readWord_35 : decode cX4_readWord 35 = .ok (.aload_n 0, 1) := dk_42 (dk_at dksX4_readWord_1 12 rfl rfl)
theorem dX4_readWord_36 : decode cX4_readWord 36 = .ok (.dup, 1) := dk_89 (dk_at dksX4_readWord_1 13 rfl rfl)
theorem dX4_readWord_37 : decode cX4_readWord 37 = .ok (.getfield 243, 3) := dk_180 0 243 (dk_at dksX4_readWord_1 14 rfl rfl)
theorem dX4_readWord_40 : decode cX4_readWord 40 = .ok (.iconst 1, 1) := dk_4 (dk_at dksX4_readWord_1 17 rfl rfl)
theorem dX4_readWord_41 : decode cX4_readWord 41 = .ok (.iadd, 1) := dk_96 (dk_at dksX4_readWord_1 18 rfl rfl)
theorem dX4_readWord_42 : decode cX4_readWord 42 = .ok (.putfield 243, 3) := dk_181 0 243 (dk_at dksX4_readWord_1 19 rfl rfl)
theorem dX4_readWord_45 : decode cX4_readWord 45 = .ok (.goto (-33), 3) := dk_167 255 223 (dk_at dksX4_readWord_2 0 rfl rfl)
theorem dX4_readWord_48 : decode cX4_readWord 48 = .ok (.aload_n 0, 1) := dk_42 (dk_at dksX4_readWord_2 3 rfl rfl)
theorem dX4_readWord_49 : decode cX4_readWord 49 = .ok (.getfield 52, 3) := dk_180 0 52 (dk_at dksX4_readWord_2 4 rfl rfl)
theorem dX4_readWord_52 : decode cX4_readWord 52 = .ok (.iload_n 1, 1) := dk_27 (dk_at dksX4_readWord_2 7 rfl rfl)
theorem dX4_readWord_53 : decode cX4_readWord 53 = .ok (.bipush 6, 2) := dk_16 6 (dk_at dksX4_readWord_2 8 rfl rfl)
theorem dX4_readWord_55 : decode cX4_readWord 55 = .ok (.iadd, 1) := dk_96 (dk_at dksX4_readWord_2 10 rfl rfl)
theorem dX4_readWord_56 : decode cX4_readWord 56 = .ok (.aload_n 0, 1) := dk_42 (dk_at dksX4_readWord_2 11 rfl rfl)
theorem dX4_readWord_57 : decode cX4_readWord 57 = .ok (.getfield 243, 3) := dk_180 0 243 (dk_at dksX4_readWord_2 12 rfl rfl)
theorem dX4_readWord_60 : decode cX4_readWord 60 = .ok (.iastore, 1) := dk_79 (dk_at dksX4_readWord_2 15 rfl rfl)
theorem dX4_readWord_61 : decode cX4_readWord 61 = .ok (.aload_n 0, 1) := dk_42 (dk_at dksX4_readWord_2 16 rfl rfl)
theorem dX4_readWord_62 : decode cX4_readWord 62 = .ok (.aload_n 0, 1) := dk_42 (dk_at dksX4_readWord_2 17 rfl rfl)
theorem dX4_readWord_63 : decode cX4_readWord 63 = .ok (.getfield 243, 3) := dk_180 0 243 (dk_at dksX4_readWord_2 18 rfl rfl)
theorem dX4_readWord_66 : decode cX4_readWord 66 = .ok (.aload_n 0, 1) := dk_42 (dk_at dksX4_readWord_2 21 rfl rfl)
theorem dX4_readWord_67 : decode cX4_readWord 67 = .ok (.getfield 52, 3) := dk_180 0 52 (dk_at dksX4_readWord_3 0 rfl rfl)
theorem dX4_readWord_70 : decode cX4_readWord 70 = .ok (.iload_n 1, 1) := dk_27 (dk_at dksX4_readWord_3 3 rfl rfl)
theorem dX4_readWord_71 : decode cX4_readWord 71 = .ok (.iconst 5, 1) := dk_8 (dk_at dksX4_readWord_3 4 rfl rfl)
theorem dX4_readWord_72 : decode cX4_readWord 72 = .ok (.iadd, 1) := dk_96 (dk_at dksX4_readWord_3 5 rfl rfl)
theorem dX4_readWord_73 : decode cX4_readWord 73 = .ok (.iaload, 1) := dk_46 (dk_at dksX4_readWord_3 6 rfl rfl)
theorem dX4_readWord_74 : decode cX4_readWord 74 = .ok (.if_icmp .ne 7, 3) := dk_160 0 7 (dk_at dksX4_readWord_3 7 rfl rfl)
theorem dX4_readWord_77 : decode cX4_readWord 77 = .ok (.iconst 1, 1) := dk_4 (dk_at dksX4_readWord_3 10 rfl rfl)
theorem dX4_readWord_78 : decode cX4_readWord 78 = .ok (.goto 4, 3) := dk_167 0 4 (dk_at dksX4_readWord_3 11 rfl rfl)
theorem dX4_readWord_81 : decode cX4_readWord 81 = .ok (.iconst 0, 1) := dk_3 (dk_at dksX4_readWord_3 14 rfl rfl)
theorem dX4_readWord_82 : decode cX4_readWord 82 = .ok (.putfield 249, 3) := dk_181 0 249 (dk_at dksX4_readWord_3 15 rfl rfl)
theorem dX4_readWord_85 : decode cX4_readWord 85 = .ok (.return_, 1) := dk_177 (dk_at dksX4_readWord_3 18 rfl rfl)
abbrev cX4_readColumn : ByteArray := prog_17_method_79_code
def yX4_readColumn : MethodName := ⟨RX4, "readColumn", "(I)V"⟩
def dkwX4_readColumn_5 : List UInt8 := [182, 0, 252, 79, 177]
abbrev dktX4_readColumn_5 : List UInt8 := dkwX4_readColumn_5 ++ []
def dkwX4_readColumn_4 : List UInt8 := [27, 6, 96, 28, 79, 42, 89, 180, 0, 243, 4, 96, 181, 0, 243, 42, 180, 0, 52, 27, 7, 96, 42]
abbrev dktX4_readColumn_4 : List UInt8 := dkwX4_readColumn_4 ++ dktX4_readColumn_5
def dkwX4_readColumn_3 : List UInt8 := [16, 62, 159, 0, 7, 4, 167, 0, 4, 3, 181, 0, 249, 42, 180, 0, 249, 154, 0, 34, 42, 180, 0, 52]
abbrev dktX4_readColumn_3 : List UInt8 := dkwX4_readColumn_3 ++ dktX4_readColumn_4
def dkwX4_readColumn_2 : List UInt8 := [96, 181, 0, 243, 42, 182, 0, 246, 61, 42, 28, 16, 60, 159, 0, 19, 28, 16, 61, 159, 0, 13, 28]
abbrev dktX4_readColumn_2 : List UInt8 := dkwX4_readColumn_2 ++ dktX4_readColumn_3
def dkwX4_readColumn_1 : List UInt8 := [154, 0, 98, 42, 180, 0, 52, 27, 5, 96, 42, 182, 0, 246, 16, 48, 100, 79, 42, 89, 180, 0, 243, 4]
abbrev dktX4_readColumn_1 : List UInt8 := dkwX4_readColumn_1 ++ dktX4_readColumn_2
def dkwX4_readColumn_0 : List UInt8 := [42, 42, 182, 0, 246, 184, 0, 84, 154, 0, 7, 4, 167, 0, 4, 3, 181, 0, 249, 42, 180, 0, 249]
abbrev dktX4_readColumn_0 : List UInt8 := dkwX4_readColumn_0 ++ dktX4_readColumn_1
theorem dksX4_readColumn_0 : cX4_readColumn.data.toList.drop 0 = dktX4_readColumn_0 := by decide +kernel
theorem dksX4_readColumn_1 : cX4_readColumn.data.toList.drop 23 = dktX4_readColumn_1 := dk_seg dksX4_readColumn_0 23 rfl rfl
theorem dksX4_readColumn_2 : cX4_readColumn.data.toList.drop 47 = dktX4_readColumn_2 := dk_seg dksX4_readColumn_1 24 rfl rfl
theorem dksX4_readColumn_3 : cX4_readColumn.data.toList.drop 70 = dktX4_readColumn_3 := dk_seg dksX4_readColumn_2 23 rfl rfl
theorem dksX4_readColumn_4 : cX4_readColumn.data.toList.drop 94 = dktX4_readColumn_4 := dk_seg dksX4_readColumn_3 24 rfl rfl
theorem dksX4_readColumn_5 : cX4_readColumn.data.toList.drop 117 = dktX4_readColumn_5 := dk_seg dksX4_readColumn_4 23 rfl rfl
theorem dX4_readColumn_0 : decode cX4_readColumn 0 = .ok (.aload_n 0, 1) := dk_42 (dk_at dksX4_readColumn_0 0 rfl rfl)
theorem dX4_readColumn_1 : decode cX4_readColumn 1 = .ok (.aload_n 0, 1) := dk_42 (dk_at dksX4_readColumn_0 1 rfl rfl)
theorem dX4_readColumn_2 : decode cX4_readColumn 2 = .ok (.invokevirtual 246, 3) := dk_182 0 246 (dk_at dksX4_readColumn_0 2 rfl rfl)
theorem dX4_readColumn_5 : decode cX4_readColumn 5 = .ok (.invokestatic 84, 3) := dk_184 0 84 (dk_at dksX4_readColumn_0 5 rfl rfl)
theorem dX4_readColumn_8 : decode cX4_readColumn 8 = .ok (.ifCond .ne 7, 3) := dk_154 0 7 (dk_at dksX4_readColumn_0 8 rfl rfl)
theorem dX4_readColumn_11 : decode cX4_readColumn 11 = .ok (.iconst 1, 1) := dk_4 (dk_at dksX4_readColumn_0 11 rfl rfl)
theorem dX4_readColumn_12 : decode cX4_readColumn 12 = .ok (.goto 4, 3) := dk_167 0 4 (dk_at dksX4_readColumn_0 12 rfl rfl)
theorem dX4_readColumn_15 : decode cX4_readColumn 15 = .ok (.iconst 0, 1) := dk_3 (dk_at dksX4_readColumn_0 15 rfl rfl)
theorem dX4_readColumn_16 : decode cX4_readColumn 16 = .ok (.putfield 249, 3) := dk_181 0 249 (dk_at dksX4_readColumn_0 16 rfl rfl)
theorem dX4_readColumn_19 : decode cX4_readColumn 19 = .ok (.aload_n 0, 1) := dk_42 (dk_at dksX4_readColumn_0 19 rfl rfl)
theorem dX4_readColumn_20 : decode cX4_readColumn 20 = .ok (.getfield 249, 3) := dk_180 0 249 (dk_at dksX4_readColumn_0 20 rfl rfl)
theorem dX4_readColumn_23 : decode cX4_readColumn 23 = .ok (.ifCond .ne 98, 3) := dk_154 0 98 (dk_at dksX4_readColumn_1 0 rfl rfl)
theorem dX4_readColumn_26 : decode cX4_readColumn 26 = .ok (.aload_n 0, 1) := dk_42 (dk_at dksX4_readColumn_1 3 rfl rfl)
theorem dX4_readColumn_27 : decode cX4_readColumn 27 = .ok (.getfield 52, 3) := dk_180 0 52 (dk_at dksX4_readColumn_1 4 rfl rfl)
theorem dX4_readColumn_30 : decode cX4_readColumn 30 = .ok (.iload_n 1, 1) := dk_27 (dk_at dksX4_readColumn_1 7 rfl rfl)
theorem dX4_readColumn_31 : decode cX4_readColumn 31 = .ok (.iconst 2, 1) := dk_5 (dk_at dksX4_readColumn_1 8 rfl rfl)
theorem dX4_readColumn_32 : decode cX4_readColumn 32 = .ok (.iadd, 1) := dk_96 (dk_at dksX4_readColumn_1 9 rfl rfl)
theorem dX4_readColumn_33 : decode cX4_readColumn 33 = .ok (.aload_n 0, 1) := dk_42 (dk_at dksX4_readColumn_1 10 rfl rfl)
theorem dX4_readColumn_34 : decode cX4_readColumn 34 = .ok (.invokevirtual 246, 3) := dk_182 0 246 (dk_at dksX4_readColumn_1 11 rfl rfl)
theorem dX4_readColumn_37 : decode cX4_readColumn 37 = .ok (.bipush 48, 2) := dk_16 48 (dk_at dksX4_readColumn_1 14 rfl rfl)
theorem dX4_readColumn_39 : decode cX4_readColumn 39 = .ok (.isub, 1) := dk_100 (dk_at dksX4_readColumn_1 16 rfl rfl)
theorem dX4_readColumn_40 : decode cX4_readColumn 40 = .ok (.iastore, 1) := dk_79 (dk_at dksX4_readColumn_1 17 rfl rfl)
theorem dX4_readColumn_41 : decode cX4_readColumn 41 = .ok (.aload_n 0, 1) := dk_42 (dk_at dksX4_readColumn_1 18 rfl rfl)
theorem dX4_readColumn_42 : decode cX4_readColumn 42 = .ok (.dup, 1) := dk_89 (dk_at dksX4_readColumn_1 19 rfl rfl)
theorem dX4_readColumn_43 : decode cX4_readColumn 43 = .ok (.getfield 243, 3) := dk_180 0 243 (dk_at dksX4_readColumn_1 20 rfl rfl)
theorem dX4_readColumn_46 : decode cX4_readColumn 46 = .ok (.iconst 1, 1) := dk_4 (dk_at dksX4_readColumn_1 23 rfl rfl)
theorem dX4_readColumn_47 : decode cX4_readColumn 47 = .ok (.iadd, 1) := dk_96 (dk_at dksX4_readColumn_2 0 rfl rfl)
theorem dX4_readColumn_48 : decode cX4_readColumn 48 = .ok (.putfield 243, 3) := dk_181 0 243 (dk_at dksX4_readColumn_2 1 rfl rfl)
theorem dX4_readColumn_51 : decode cX4_readColumn 51 = .ok (.aload_n 0, 1) := dk_42 (dk_at dksX4_readColumn_2 4 rfl rfl)
theorem dX4_readColumn_52 : decode cX4_readColumn 52 = .ok (.invokevirtual 246, 3) := dk_182 0 246 (dk_at dksX4_readColumn_2 5 rfl rfl)
theorem dX4_readColumn_55 : decode cX4_readColumn 55 = .ok (.istore_n 2, 1) := dk_61 (dk_at dksX4_readColumn_2 8 rfl rfl)
theorem dX4_readColumn_56 : decode cX4_readColumn 56 = .ok (.aload_n 0, 1) := dk_42 (dk_at dksX4_readColumn_2 9 rfl rfl)
theorem dX4_readColumn_57 : decode cX4_readColumn 57 = .ok (.iload_n 2, 1) := dk_28 (dk_at dksX4_readColumn_2 10 rfl rfl)
theorem dX4_readColumn_58 : decode cX4_readColumn 58 = .ok (.bipush 60, 2) := dk_16 60 (dk_at dksX4_readColumn_2 11 rfl rfl)
theorem dX4_readColumn_60 : decode cX4_readColumn 60 = .ok (.if_icmp .eq 19, 3) := dk_159 0 19 (dk_at dksX4_readColumn_2 13 rfl rfl)
theorem dX4_readColumn_63 : decode cX4_readColumn 63 = .ok (.iload_n 2, 1) := dk_28 (dk_at dksX4_readColumn_2 16 rfl rfl)
theorem dX4_readColumn_64 : decode cX4_readColumn 64 = .ok (.bipush 61, 2) := dk_16 61 (dk_at dksX4_readColumn_2 17 rfl rfl)
theorem dX4_readColumn_66 : decode cX4_readColumn 66 = .ok (.if_icmp .eq 13, 3) := dk_159 0 13 (dk_at dksX4_readColumn_2 19 rfl rfl)
theorem dX4_readColumn_69 : decode cX4_readColumn 69 = .ok (.iload_n 2, 1) := dk_28 (dk_at dksX4_readColumn_2 22 rfl rfl)
theorem dX4_readColumn_70 : decode cX4_readColumn 70 = .ok (.bipush 62, 2) := dk_16 62 (dk_at dksX4_readColumn_3 0 rfl rfl)
theorem dX4_readColumn_72 : decode cX4_readColumn 72 = .ok (.if_icmp .eq 7, 3) := dk_159 0 7 (dk_at dksX4_readColumn_3 2 rfl rfl)
theorem dX4_readColumn_75 : decode cX4_readColumn 75 = .ok (.iconst 1, 1) := dk_4 (dk_at dksX4_readColumn_3 5 rfl rfl)
theorem dX4_readColumn_76 : decode cX4_readColumn 76 = .ok (.goto 4, 3) := dk_167 0 4 (dk_at dksX4_readColumn_3 6 rfl rfl)
theorem dX4_readColumn_79 : decode cX4_readColumn 79 = .ok (.iconst 0, 1) := dk_3 (dk_at dksX4_readColumn_3 9 rfl rfl)
theorem dX4_readColumn_80 : decode cX4_readColumn 80 = .ok (.putfield 249, 3) := dk_181 0 249 (dk_at dksX4_readColumn_3 10 rfl rfl)
theorem dX4_readColumn_83 : decode cX4_readColumn 83 = .ok (.aload_n 0, 1) := dk_42 (dk_at dksX4_readColumn_3 13 rfl rfl)
theorem dX4_readColumn_84 : decode cX4_readColumn 84 = .ok (.getfield 249, 3) := dk_180 0 249 (dk_at dksX4_readColumn_3 14 rfl rfl)
theorem dX4_readColumn_87 : decode cX4_readColumn 87 = .ok (.ifCond .ne 34, 3) := dk_154 0 34 (dk_at dksX4_readColumn_3 17 rfl rfl)
theorem dX4_readColumn_90 : decode cX4_readColumn 90 = .ok (.aload_n 0, 1) := dk_42 (dk_at dksX4_readColumn_3 20 rfl rfl)
theorem dX4_readColumn_91 : decode cX4_readColumn 91 = .ok (.getfield 52, 3) := dk_180 0 52 (dk_at dksX4_readColumn_3 21 rfl rfl)
theorem dX4_readColumn_94 : decode cX4_readColumn 94 = .ok (.iload_n 1, 1) := dk_27 (dk_at dksX4_readColumn_4 0 rfl rfl)
theorem dX4_readColumn_95 : decode cX4_readColumn 95 = .ok (.iconst 3, 1) := dk_6 (dk_at dksX4_readColumn_4 1 rfl rfl)
theorem dX4_readColumn_96 : decode cX4_readColumn 96 = .ok (.iadd, 1) := dk_96 (dk_at dksX4_readColumn_4 2 rfl rfl)
theorem dX4_readColumn_97 : decode cX4_readColumn 97 = .ok (.iload_n 2, 1) := dk_28 (dk_at dksX4_readColumn_4 3 rfl rfl)
theorem dX4_readColumn_98 : decode cX4_readColumn 98 = .ok (.iastore, 1) := dk_79 (dk_at dksX4_readColumn_4 4 rfl rfl)
theorem dX4_readColumn_99 : decode cX4_readColumn 99 = .ok (.aload_n 0, 1) := dk_42 (dk_at dksX4_readColumn_4 5 rfl rfl)
theorem dX4_readColumn_100 : decode cX4_readColumn 100 = .ok (.dup, 1) := dk_89 (dk_at dksX4_readColumn_4 6 rfl rfl)
theorem dX4_readColumn_101 : decode cX4_readColumn 101 = .ok (.getfield 243, 3) := dk_180 0 243 (dk_at dksX4_readColumn_4 7 rfl rfl)
theorem dX4_readColumn_104 : decode cX4_readColumn 104 = .ok (.iconst 1, 1) := dk_4 (dk_at dksX4_readColumn_4 10 rfl rfl)
theorem dX4_readColumn_105 : decode cX4_readColumn 105 = .ok (.iadd, 1) := dk_96 (dk_at dksX4_readColumn_4 11 rfl rfl)
theorem dX4_readColumn_106 : decode cX4_readColumn 106 = .ok (.putfield 243, 3) := dk_181 0 243 (dk_at dksX4_readColumn_4 12 rfl rfl)
theorem dX4_readColumn_109 : decode cX4_readColumn 109 = .ok (.aload_n 0, 1) := dk_42 (dk_at dksX4_readColumn_4 15 rfl rfl)
theorem dX4_readColumn_110 : decode cX4_readColumn 110 = .ok (.getfield 52, 3) := dk_180 0 52 (dk_at dksX4_readColumn_4 16 rfl rfl)
theorem dX4_readColumn_113 : decode cX4_readColumn 113 = .ok (.iload_n 1, 1) := dk_27 (dk_at dksX4_readColumn_4 19 rfl rfl)
theorem dX4_readColumn_114 : decode cX4_readColumn 114 = .ok (.iconst 4, 1) := dk_7 (dk_at dksX4_readColumn_4 20 rfl rfl)
theorem dX4_readColumn_115 : decode cX4_readColumn 115 = .ok (.iadd, 1) := dk_96 (dk_at dksX4_readColumn_4 21 rfl rfl)
theorem dX4_readColumn_116 : decode cX4_readColumn 116 = .ok (.aload_n 0, 1) := dk_42 (dk_at dksX4_readColumn_4 22 rfl rfl)
theorem dX4_readColumn_117 : decode cX4_readColumn 117 = .ok (.invokevirtual 252, 3) := dk_182 0 252 (dk_at dksX4_readColumn_5 0 rfl rfl)
theorem dX4_readColumn_120 : decode cX4_readColumn 120 = .ok (.iastore, 1) := dk_79 (dk_at dksX4_readColumn_5 3 rfl rfl)
theorem dX4_readColumn_121 : decode cX4_readColumn 121 = .ok (.return_, 1) := dk_177 (dk_at dksX4_readColumn_5 4 rfl rfl)
abbrev cX4_hits : ByteArray := prog_17_method_85_code
def yX4_hits : MethodName := ⟨RX4, "hits", "()I"⟩
def dkwX4_hits_1 : List UInt8 := [4, 167, 0, 4, 3, 96, 60, 132, 2, 1, 167, 255, 226, 27, 172]
abbrev dktX4_hits_1 : List UInt8 := dkwX4_hits_1 ++ []
def dkwX4_hits_0 : List UInt8 := [3, 60, 3, 61, 28, 42, 180, 0, 9, 3, 46, 162, 0, 26, 27, 42, 28, 2, 182, 1, 20, 153, 0, 7]
abbrev dktX4_hits_0 : List UInt8 := dkwX4_hits_0 ++ dktX4_hits_1
theorem dksX4_hits_0 : cX4_hits.data.toList.drop 0 = dktX4_hits_0 := by decide +kernel
theorem dksX4_hits_1 : cX4_hits.data.toList.drop 24 = dktX4_hits_1 := dk_seg dksX4_hits_0 24 rfl rfl
theorem dX4_hits_0 : decode cX4_hits 0 = .ok (.iconst 0, 1) := dk_3 (dk_at dksX4_hits_0 0 rfl rfl)
theorem dX4_hits_1 : decode cX4_hits 1 = .ok (.istore_n 1, 1) := dk_60 (dk_at dksX4_hits_0 1 rfl rfl)
theorem dX4_hits_2 : decode cX4_hits 2 = .ok (.iconst 0, 1) := dk_3 (dk_at dksX4_hits_0 2 rfl rfl)
theorem dX4_hits_3 : decode cX4_hits 3 = .ok (.istore_n 2, 1) := dk_61 (dk_at dksX4_hits_0 3 rfl rfl)
theorem dX4_hits_4 : decode cX4_hits 4 = .ok (.iload_n 2, 1) := dk_28 (dk_at dksX4_hits_0 4 rfl rfl)
theorem dX4_hits_5 : decode cX4_hits 5 = .ok (.aload_n 0, 1) := dk_42 (dk_at dksX4_hits_0 5 rfl rfl)
theorem dX4_hits_6 : decode cX4_hits 6 = .ok (.getfield 9, 3) := dk_180 0 9 (dk_at dksX4_hits_0 6 rfl rfl)
theorem dX4_hits_9 : decode cX4_hits 9 = .ok (.iconst 0, 1) := dk_3 (dk_at dksX4_hits_0 9 rfl rfl)
theorem dX4_hits_10 : decode cX4_hits 10 = .ok (.iaload, 1) := dk_46 (dk_at dksX4_hits_0 10 rfl rfl)
theorem dX4_hits_11 : decode cX4_hits 11 = .ok (.if_icmp .ge 26, 3) := dk_162 0 26 (dk_at dksX4_hits_0 11 rfl rfl)
theorem dX4_hits_14 : decode cX4_hits 14 = .ok (.iload_n 1, 1) := dk_27 (dk_at dksX4_hits_0 14 rfl rfl)
theorem dX4_hits_15 : decode cX4_hits 15 = .ok (.aload_n 0, 1) := dk_42 (dk_at dksX4_hits_0 15 rfl rfl)
theorem dX4_hits_16 : decode cX4_hits 16 = .ok (.iload_n 2, 1) := dk_28 (dk_at dksX4_hits_0 16 rfl rfl)
theorem dX4_hits_17 : decode cX4_hits 17 = .ok (.iconst (-1), 1) := dk_2 (dk_at dksX4_hits_0 17 rfl rfl)
theorem dX4_hits_18 : decode cX4_hits 18 = .ok (.invokevirtual 276, 3) := dk_182 1 20 (dk_at dksX4_hits_0 18 rfl rfl)
theorem dX4_hits_21 : decode cX4_hits 21 = .ok (.ifCond .eq 7, 3) := dk_153 0 7 (dk_at dksX4_hits_0 21 rfl rfl)
theorem dX4_hits_24 : decode cX4_hits 24 = .ok (.iconst 1, 1) := dk_4 (dk_at dksX4_hits_1 0 rfl rfl)
theorem dX4_hits_25 : decode cX4_hits 25 = .ok (.goto 4, 3) := dk_167 0 4 (dk_at dksX4_hits_1 1 rfl rfl)
theorem dX4_hits_28 : decode cX4_hits 28 = .ok (.iconst 0, 1) := dk_3 (dk_at dksX4_hits_1 4 rfl rfl)
theorem dX4_hits_29 : decode cX4_hits 29 = .ok (.iadd, 1) := dk_96 (dk_at dksX4_hits_1 5 rfl rfl)
theorem dX4_hits_30 : decode cX4_hits 30 = .ok (.istore_n 1, 1) := dk_60 (dk_at dksX4_hits_1 6 rfl rfl)
theorem dX4_hits_31 : decode cX4_hits 31 = .ok (.iinc 2 1, 3) := dk_132 2 1 (dk_at dksX4_hits_1 7 rfl rfl)
theorem dX4_hits_34 : decode cX4_hits 34 = .ok (.goto (-30), 3) := dk_167 255 226 (dk_at dksX4_hits_1 10 rfl rfl)
theorem dX4_hits_37 : decode cX4_hits 37 = .ok (.iload_n 1, 1) := dk_27 (dk_at dksX4_hits_1 13 rfl rfl)
theorem dX4_hits_38 : decode cX4_hits 38 = .ok (.ireturn, 1) := dk_172 (dk_at dksX4_hits_1 14 rfl rfl)
abbrev cX4_isHit : ByteArray := prog_17_method_84_code
def yX4_isHit : MethodName := ⟨RX4, "isHit", "(II)Z"⟩
def dkwX4_isHit_1 : List UInt8 := [42, 27, 21, 4, 182, 1, 17, 153, 0, 7, 4, 167, 0, 4, 3, 62, 132, 4, 1, 167, 255, 218, 29, 172]
abbrev dktX4_isHit_1 : List UInt8 := dkwX4_isHit_1 ++ []
def dkwX4_isHit_0 : List UInt8 := [4, 62, 3, 54, 4, 21, 4, 42, 180, 1, 14, 162, 0, 35, 29, 153, 0, 31, 21, 4, 28, 159, 0, 13]
abbrev dktX4_isHit_0 : List UInt8 := dkwX4_isHit_0 ++ dktX4_isHit_1
theorem dksX4_isHit_0 : cX4_isHit.data.toList.drop 0 = dktX4_isHit_0 := by decide +kernel
theorem dksX4_isHit_1 : cX4_isHit.data.toList.drop 24 = dktX4_isHit_1 := dk_seg dksX4_isHit_0 24 rfl rfl
theorem dX4_isHit_0 : decode cX4_isHit 0 = .ok (.iconst 1, 1) := dk_4 (dk_at dksX4_isHit_0 0 rfl rfl)
theorem dX4_isHit_1 : decode cX4_isHit 1 = .ok (.istore_n 3, 1) := dk_62 (dk_at dksX4_isHit_0 1 rfl rfl)
theorem dX4_isHit_2 : decode cX4_isHit 2 = .ok (.iconst 0, 1) := dk_3 (dk_at dksX4_isHit_0 2 rfl rfl)
theorem dX4_isHit_3 : decode cX4_isHit 3 = .ok (.istore 4, 2) := dk_54 4 (dk_at dksX4_isHit_0 3 rfl rfl)
theorem dX4_isHit_5 : decode cX4_isHit 5 = .ok (.iload 4, 2) := dk_21 4 (dk_at dksX4_isHit_0 5 rfl rfl)
theorem dX4_isHit_7 : decode cX4_isHit 7 = .ok (.aload_n 0, 1) := dk_42 (dk_at dksX4_isHit_0 7 rfl rfl)
theorem dX4_isHit_8 : decode cX4_isHit 8 = .ok (.getfield 270, 3) := dk_180 1 14 (dk_at dksX4_isHit_0 8 rfl rfl)
theorem dX4_isHit_11 : decode cX4_isHit 11 = .ok (.if_icmp .ge 35, 3) := dk_162 0 35 (dk_at dksX4_isHit_0 11 rfl rfl)
theorem dX4_isHit_14 : decode cX4_isHit 14 = .ok (.iload_n 3, 1) := dk_29 (dk_at dksX4_isHit_0 14 rfl rfl)
theorem dX4_isHit_15 : decode cX4_isHit 15 = .ok (.ifCond .eq 31, 3) := dk_153 0 31 (dk_at dksX4_isHit_0 15 rfl rfl)
theorem dX4_isHit_18 : decode cX4_isHit 18 = .ok (.iload 4, 2) := dk_21 4 (dk_at dksX4_isHit_0 18 rfl rfl)
theorem dX4_isHit_20 : decode cX4_isHit 20 = .ok (.iload_n 2, 1) := dk_28 (dk_at dksX4_isHit_0 20 rfl rfl)
theorem dX4_isHit_21 : decode cX4_isHit 21 = .ok (.if_icmp .eq 13, 3) := dk_159 0 13 (dk_at dksX4_isHit_0 21 rfl rfl)
theorem dX4_isHit_24 : decode cX4_isHit 24 = .ok (.aload_n 0, 1) := dk_42 (dk_at dksX4_isHit_1 0 rfl rfl)
theorem dX4_isHit_25 : decode cX4_isHit 25 = .ok (.iload_n 1, 1) := dk_27 (dk_at dksX4_isHit_1 1 rfl rfl)
theorem dX4_isHit_26 : decode cX4_isHit 26 = .ok (.iload 4, 2) := dk_21 4 (dk_at dksX4_isHit_1 2 rfl rfl)
theorem dX4_isHit_28 : decode cX4_isHit 28 = .ok (.invokevirtual 273, 3) := dk_182 1 17 (dk_at dksX4_isHit_1 4 rfl rfl)
theorem dX4_isHit_31 : decode cX4_isHit 31 = .ok (.ifCond .eq 7, 3) := dk_153 0 7 (dk_at dksX4_isHit_1 7 rfl rfl)
theorem dX4_isHit_34 : decode cX4_isHit 34 = .ok (.iconst 1, 1) := dk_4 (dk_at dksX4_isHit_1 10 rfl rfl)
theorem dX4_isHit_35 : decode cX4_isHit 35 = .ok (.goto 4, 3) := dk_167 0 4 (dk_at dksX4_isHit_1 11 rfl rfl)
theorem dX4_isHit_38 : decode cX4_isHit 38 = .ok (.iconst 0, 1) := dk_3 (dk_at dksX4_isHit_1 14 rfl rfl)
theorem dX4_isHit_39 : decode cX4_isHit 39 = .ok (.istore_n 3, 1) := dk_62 (dk_at dksX4_isHit_1 15 rfl rfl)
theorem dX4_isHit_40 : decode cX4_isHit 40 = .ok (.iinc 4 1, 3) := dk_132 4 1 (dk_at dksX4_isHit_1 16 rfl rfl)
theorem dX4_isHit_43 : decode cX4_isHit 43 = .ok (.goto (-38), 3) := dk_167 255 218 (dk_at dksX4_isHit_1 19 rfl rfl)
theorem dX4_isHit_46 : decode cX4_isHit 46 = .ok (.iload_n 3, 1) := dk_29 (dk_at dksX4_isHit_1 22 rfl rfl)
theorem dX4_isHit_47 : decode cX4_isHit 47 = .ok (.ireturn, 1) := dk_172 (dk_at dksX4_isHit_1 23 rfl rfl)
abbrev cX4_fulfils : ByteArray := prog_17_method_83_code
def yX4_fulfils : MethodName := ⟨RX4, "fulfils", "(II)Z"⟩
def dkwX4_fulfils_4 : List UInt8 := [160, 0, 7, 4, 167, 0, 4, 3, 172]
abbrev dktX4_fulfils_4 : List UInt8 := dkwX4_fulfils_4 ++ []
def dkwX4_fulfils_3 : List UInt8 := [182, 1, 11, 54, 5, 21, 5, 42, 180, 0, 46, 29, 46, 5, 112, 154, 0, 7, 4, 167, 0, 4, 3]
abbrev dktX4_fulfils_3 : List UInt8 := dkwX4_fulfils_3 ++ dktX4_fulfils_4
def dkwX4_fulfils_2 : List UInt8 := [167, 0, 25, 21, 4, 16, 36, 160, 0, 12, 42, 27, 29, 182, 1, 8, 167, 0, 9, 42, 27, 29]
abbrev dktX4_fulfils_2 : List UInt8 := dkwX4_fulfils_2 ++ dktX4_fulfils_3
def dkwX4_fulfils_1 : List UInt8 := [180, 0, 9, 16, 43, 27, 96, 46, 42, 180, 0, 46, 29, 7, 96, 46, 160, 0, 7, 4, 167, 0, 29, 3]
abbrev dktX4_fulfils_1 : List UInt8 := dkwX4_fulfils_1 ++ dktX4_fulfils_2
def dkwX4_fulfils_0 : List UInt8 := [16, 7, 28, 104, 62, 42, 180, 0, 46, 29, 4, 96, 46, 54, 4, 21, 4, 16, 35, 160, 0, 31, 42]
abbrev dktX4_fulfils_0 : List UInt8 := dkwX4_fulfils_0 ++ dktX4_fulfils_1
theorem dksX4_fulfils_0 : cX4_fulfils.data.toList.drop 0 = dktX4_fulfils_0 := by decide +kernel
theorem dksX4_fulfils_1 : cX4_fulfils.data.toList.drop 23 = dktX4_fulfils_1 := dk_seg dksX4_fulfils_0 23 rfl rfl
theorem dksX4_fulfils_2 : cX4_fulfils.data.toList.drop 47 = dktX4_fulfils_2 := dk_seg dksX4_fulfils_1 24 rfl rfl
theorem dksX4_fulfils_3 : cX4_fulfils.data.toList.drop 69 = dktX4_fulfils_3 := dk_seg dksX4_fulfils_2 22 rfl rfl
theorem dksX4_fulfils_4 : cX4_fulfils.data.toList.drop 92 = dktX4_fulfils_4 := dk_seg dksX4_fulfils_3 23 rfl rfl
theorem dX4_fulfils_0 : decode cX4_fulfils 0 = .ok (.bipush 7, 2) := dk_16 7 (dk_at dksX4_fulfils_0 0 rfl rfl)
theorem dX4_fulfils_2 : decode cX4_fulfils 2 = .ok (.iload_n 2, 1) := dk_28 (dk_at dksX4_fulfils_0 2 rfl rfl)
theorem dX4_fulfils_3 : decode cX4_fulfils 3 = .ok (.imul, 1) := dk_104 (dk_at dksX4_fulfils_0 3 rfl rfl)
theorem dX4_fulfils_4 : decode cX4_fulfils 4 = .ok (.istore_n 3, 1) := dk_62 (dk_at dksX4_fulfils_0 4 rfl rfl)
theorem dX4_fulfils_5 : decode cX4_fulfils 5 = .ok (.aload_n 0, 1) := dk_42 (dk_at dksX4_fulfils_0 5 rfl rfl)
theorem dX4_fulfils_6 : decode cX4_fulfils 6 = .ok (.getfield 46, 3) := dk_180 0 46 (dk_at dksX4_fulfils_0 6 rfl rfl)
theorem dX4_fulfils_9 : decode cX4_fulfils 9 = .ok (.iload_n 3, 1) := dk_29 (dk_at dksX4_fulfils_0 9 rfl rfl)
theorem dX4_fulfils_10 : decode cX4_fulfils 10 = .ok (.iconst 1, 1) := dk_4 (dk_at dksX4_fulfils_0 10 rfl rfl)
theorem dX4_fulfils_11 : decode cX4_fulfils 11 = .ok (.iadd, 1) := dk_96 (dk_at dksX4_fulfils_0 11 rfl rfl)
theorem dX4_fulfils_12 : decode cX4_fulfils 12 = .ok (.iaload, 1) := dk_46 (dk_at dksX4_fulfils_0 12 rfl rfl)
theorem dX4_fulfils_13 : decode cX4_fulfils 13 = .ok (.istore 4, 2) := dk_54 4 (dk_at dksX4_fulfils_0 13 rfl rfl)
theorem dX4_fulfils_15 : decode cX4_fulfils 15 = .ok (.iload 4, 2) := dk_21 4 (dk_at dksX4_fulfils_0 15 rfl rfl)
theorem dX4_fulfils_17 : decode cX4_fulfils 17 = .ok (.bipush 35, 2) := dk_16 35 (dk_at dksX4_fulfils_0 17 rfl rfl)
theorem dX4_fulfils_19 : decode cX4_fulfils 19 = .ok (.if_icmp .ne 31, 3) := dk_160 0 31 (dk_at dksX4_fulfils_0 19 rfl rfl)
theorem dX4_fulfils_22 : decode cX4_fulfils 22 = .ok (.aload_n 0, 1) := dk_42 (dk_at dksX4_fulfils_0 22 rfl rfl)
theorem dX4_fulfils_23 : decode cX4_fulfils 23 = .ok (.getfield 9, 3) := dk_180 0 9 (dk_at dksX4_fulfils_1 0 rfl rfl)
theorem dX4_fulfils_26 : decode cX4_fulfils 26 = .ok (.bipush 43, 2) := dk_16 43 (dk_at dksX4_fulfils_1 3 rfl rfl)
theorem dX4_fulfils_28 : decode cX4_fulfils 28 = .ok (.iload_n 1, 1) := dk_27 (dk_at dksX4_fulfils_1 5 rfl rfl)
theorem dX4_fulfils_29 : decode cX4_fulfils 29 = .ok (.iadd, 1) := dk_96 (dk_at dksX4_fulfils_1 6 rfl rfl)
theorem dX4_fulfils_30 : decode cX4_fulfils 30 = .ok (.iaload, 1) := dk_46 (dk_at dksX4_fulfils_1 7 rfl rfl)
theorem dX4_fulfils_31 : decode cX4_fulfils 31 = .ok (.aload_n 0, 1) := dk_42 (dk_at dksX4_fulfils_1 8 rfl rfl)
theorem dX4_fulfils_32 : decode cX4_fulfils 32 = .ok (.getfield 46, 3) := dk_180 0 46 (dk_at dksX4_fulfils_1 9 rfl rfl)
theorem dX4_fulfils_35 : decode cX4_fulfils 35 = .ok (.iload_n 3, 1) := dk_29 (dk_at dksX4_fulfils_1 12 rfl rfl)
theorem dX4_fulfils_36 : decode cX4_fulfils 36 = .ok (.iconst 4, 1) := dk_7 (dk_at dksX4_fulfils_1 13 rfl rfl)
theorem dX4_fulfils_37 : decode cX4_fulfils 37 = .ok (.iadd, 1) := dk_96 (dk_at dksX4_fulfils_1 14 rfl rfl)
theorem dX4_fulfils_38 : decode cX4_fulfils 38 = .ok (.iaload, 1) := dk_46 (dk_at dksX4_fulfils_1 15 rfl rfl)
theorem dX4_fulfils_39 : decode cX4_fulfils 39 = .ok (.if_icmp .ne 7, 3) := dk_160 0 7 (dk_at dksX4_fulfils_1 16 rfl rfl)
theorem dX4_fulfils_42 : decode cX4_fulfils 42 = .ok (.iconst 1, 1) := dk_4 (dk_at dksX4_fulfils_1 19 rfl rfl)
theorem dX4_fulfils_43 : decode cX4_fulfils 43 = .ok (.goto 29, 3) := dk_167 0 29 (dk_at dksX4_fulfils_1 20 rfl rfl)
theorem dX4_fulfils_46 : decode cX4_fulfils 46 = .ok (.iconst 0, 1) := dk_3 (dk_at dksX4_fulfils_1 23 rfl rfl)
theorem dX4_fulfils_47 : decode cX4_fulfils 47 = .ok (.goto 25, 3) := dk_167 0 25 (dk_at dksX4_fulfils_2 0 rfl rfl)
theorem dX4_fulfils_50 : decode cX4_fulfils 50 = .ok (.iload 4, 2) := dk_21 4 (dk_at dksX4_fulfils_2 3 rfl rfl)
theorem dX4_fulfils_52 : decode cX4_fulfils 52 = .ok (.bipush 36, 2) := dk_16 36 (dk_at dksX4_fulfils_2 5 rfl rfl)
theorem dX4_fulfils_54 : decode cX4_fulfils 54 = .ok (.if_icmp .ne 12, 3) := dk_160 0 12 (dk_at dksX4_fulfils_2 7 rfl rfl)
theorem dX4_fulfils_57 : decode cX4_fulfils 57 = .ok (.aload_n 0, 1) := dk_42 (dk_at dksX4_fulfils_2 10 rfl rfl)
theorem dX4_fulfils_58 : decode cX4_fulfils 58 = .ok (.iload_n 1, 1) := dk_27 (dk_at dksX4_fulfils_2 11 rfl rfl)
theorem dX4_fulfils_59 : decode cX4_fulfils 59 = .ok (.iload_n 3, 1) := dk_29 (dk_at dksX4_fulfils_2 12 rfl rfl)
theorem dX4_fulfils_60 : decode cX4_fulfils 60 = .ok (.invokevirtual 264, 3) := dk_182 1 8 (dk_at dksX4_fulfils_2 13 rfl rfl)
theorem dX4_fulfils_63 : decode cX4_fulfils 63 = .ok (.goto 9, 3) := dk_167 0 9 (dk_at dksX4_fulfils_2 16 rfl rfl)
theorem dX4_fulfils_66 : decode cX4_fulfils 66 = .ok (.aload_n 0, 1) := dk_42 (dk_at dksX4_fulfils_2 19 rfl rfl)
theorem dX4_fulfils_67 : decode cX4_fulfils 67 = .ok (.iload_n 1, 1) := dk_27 (dk_at dksX4_fulfils_2 20 rfl rfl)
theorem dX4_fulfils_68 : decode cX4_fulfils 68 = .ok (.iload_n 3, 1) := dk_29 (dk_at dksX4_fulfils_2 21 rfl rfl)
theorem dX4_fulfils_69 : decode cX4_fulfils 69 = .ok (.invokevirtual 267, 3) := dk_182 1 11 (dk_at dksX4_fulfils_3 0 rfl rfl)
theorem dX4_fulfils_72 : decode cX4_fulfils 72 = .ok (.istore 5, 2) := dk_54 5 (dk_at dksX4_fulfils_3 3 rfl rfl)
theorem dX4_fulfils_74 : decode cX4_fulfils 74 = .ok (.iload 5, 2) := dk_21 5 (dk_at dksX4_fulfils_3 5 rfl rfl)
theorem dX4_fulfils_76 : decode cX4_fulfils 76 = .ok (.aload_n 0, 1) := dk_42 (dk_at dksX4_fulfils_3 7 rfl rfl)
theorem dX4_fulfils_77 : decode cX4_fulfils 77 = .ok (.getfield 46, 3) := dk_180 0 46 (dk_at dksX4_fulfils_3 8 rfl rfl)
theorem dX4_fulfils_80 : decode cX4_fulfils 80 = .ok (.iload_n 3, 1) := dk_29 (dk_at dksX4_fulfils_3 11 rfl rfl)
theorem dX4_fulfils_81 : decode cX4_fulfils 81 = .ok (.iaload, 1) := dk_46 (dk_at dksX4_fulfils_3 12 rfl rfl)
theorem dX4_fulfils_82 : decode cX4_fulfils 82 = .ok (.iconst 2, 1) := dk_5 (dk_at dksX4_fulfils_3 13 rfl rfl)
theorem dX4_fulfils_83 : decode cX4_fulfils 83 = .ok (.irem, 1) := dk_112 (dk_at dksX4_fulfils_3 14 rfl rfl)
theorem dX4_fulfils_84 : decode cX4_fulfils 84 = .ok (.ifCond .ne 7, 3) := dk_154 0 7 (dk_at dksX4_fulfils_3 15 rfl rfl)
theorem dX4_fulfils_87 : decode cX4_fulfils 87 = .ok (.iconst 1, 1) := dk_4 (dk_at dksX4_fulfils_3 18 rfl rfl)
theorem dX4_fulfils_88 : decode cX4_fulfils 88 = .ok (.goto 4, 3) := dk_167 0 4 (dk_at dksX4_fulfils_3 19 rfl rfl)
theorem dX4_fulfils_91 : decode cX4_fulfils 91 = .ok (.iconst 0, 1) := dk_3 (dk_at dksX4_fulfils_3 22 rfl rfl)
theorem dX4_fulfils_92 : decode cX4_fulfils 92 = .ok (.if_icmp .ne 7, 3) := dk_160 0 7 (dk_at dksX4_fulfils_4 0 rfl rfl)
theorem dX4_fulfils_95 : decode cX4_fulfils 95 = .ok (.iconst 1, 1) := dk_4 (dk_at dksX4_fulfils_4 3 rfl rfl)
theorem dX4_fulfils_96 : decode cX4_fulfils 96 = .ok (.goto 4, 3) := dk_167 0 4 (dk_at dksX4_fulfils_4 4 rfl rfl)
theorem dX4_fulfils_99 : decode cX4_fulfils 99 = .ok (.iconst 0, 1) := dk_3 (dk_at dksX4_fulfils_4 7 rfl rfl)
theorem dX4_fulfils_100 : decode cX4_fulfils 100 = .ok (.ireturn, 1) := dk_172 (dk_at dksX4_fulfils_4 8 rfl rfl)
abbrev cX4_hasWord : ByteArray := prog_17_method_81_code
def yX4_hasWord : MethodName := ⟨RX4, "hasWord", "(II)Z"⟩
def dkwX4_hasWord_5 : List UInt8 := [21, 5, 128, 62, 132, 4, 1, 167, 255, 135, 29, 172]
abbrev dktX4_hasWord_5 : List UInt8 := dkwX4_hasWord_5 ++ []
def dkwX4_hasWord_4 : List UInt8 := [96, 46, 21, 6, 96, 46, 160, 0, 7, 4, 167, 0, 4, 3, 54, 5, 132, 6, 1, 167, 255, 195, 29]
abbrev dktX4_hasWord_4 : List UInt8 := dkwX4_hasWord_4 ++ dktX4_hasWord_5
def dkwX4_hasWord_3 : List UInt8 := [27, 42, 27, 21, 4, 182, 0, 78, 21, 6, 96, 182, 0, 67, 42, 180, 0, 49, 42, 180, 0, 46, 28, 8]
abbrev dktX4_hasWord_3 : List UInt8 := dkwX4_hasWord_3 ++ dktX4_hasWord_4
def dkwX4_hasWord_2 : List UInt8 := [3, 54, 5, 3, 54, 6, 21, 6, 42, 27, 21, 4, 182, 0, 81, 162, 0, 55, 21, 5, 153, 0, 50, 42]
abbrev dktX4_hasWord_2 : List UInt8 := dkwX4_hasWord_2 ++ dktX4_hasWord_3
def dkwX4_hasWord_1 : List UInt8 := [180, 0, 46, 28, 16, 6, 96, 46, 42, 180, 0, 46, 28, 8, 96, 46, 100, 160, 0, 7, 4, 167, 0, 4]
abbrev dktX4_hasWord_1 : List UInt8 := dkwX4_hasWord_1 ++ dktX4_hasWord_2
def dkwX4_hasWord_0 : List UInt8 := [3, 62, 3, 54, 4, 21, 4, 42, 180, 0, 22, 27, 46, 162, 0, 116, 42, 27, 21, 4, 182, 0, 81, 42]
abbrev dktX4_hasWord_0 : List UInt8 := dkwX4_hasWord_0 ++ dktX4_hasWord_1
theorem dksX4_hasWord_0 : cX4_hasWord.data.toList.drop 0 = dktX4_hasWord_0 := by decide +kernel
theorem dksX4_hasWord_1 : cX4_hasWord.data.toList.drop 24 = dktX4_hasWord_1 := dk_seg dksX4_hasWord_0 24 rfl rfl
theorem dksX4_hasWord_2 : cX4_hasWord.data.toList.drop 48 = dktX4_hasWord_2 := dk_seg dksX4_hasWord_1 24 rfl rfl
theorem dksX4_hasWord_3 : cX4_hasWord.data.toList.drop 72 = dktX4_hasWord_3 := dk_seg dksX4_hasWord_2 24 rfl rfl
theorem dksX4_hasWord_4 : cX4_hasWord.data.toList.drop 96 = dktX4_hasWord_4 := dk_seg dksX4_hasWord_3 24 rfl rfl
theorem dksX4_hasWord_5 : cX4_hasWord.data.toList.drop 119 = dktX4_hasWord_5 := dk_seg dksX4_hasWord_4 23 rfl rfl
theorem dX4_hasWord_0 : decode cX4_hasWord 0 = .ok (.iconst 0, 1) := dk_3 (dk_at dksX4_hasWord_0 0 rfl rfl)
theorem dX4_hasWord_1 : decode cX4_hasWord 1 = .ok (.istore_n 3, 1) := dk_62 (dk_at dksX4_hasWord_0 1 rfl rfl)
theorem dX4_hasWord_2 : decode cX4_hasWord 2 = .ok (.iconst 0, 1) := dk_3 (dk_at dksX4_hasWord_0 2 rfl rfl)
theorem dX4_hasWord_3 : decode cX4_hasWord 3 = .ok (.istore 4, 2) := dk_54 4 (dk_at dksX4_hasWord_0 3 rfl rfl)
theorem dX4_hasWord_5 : decode cX4_hasWord 5 = .ok (.iload 4, 2) := dk_21 4 (dk_at dksX4_hasWord_0 5 rfl rfl)
theorem dX4_hasWord_7 : decode cX4_hasWord 7 = .ok (.aload_n 0, 1) := dk_42 (dk_at dksX4_hasWord_0 7 rfl rfl)
theorem dX4_hasWord_8 : decode cX4_hasWord 8 = .ok (.getfield 22, 3) := dk_180 0 22 (dk_at dksX4_hasWord_0 8 rfl rfl)
theorem dX4_hasWord_11 : decode cX4_hasWord 11 = .ok (.iload_n 1, 1) := dk_27 (dk_at dksX4_hasWord_0 11 rfl rfl)
theorem dX4_hasWord_12 : decode cX4_hasWord 12 = .ok (.iaload, 1) := dk_46 (dk_at dksX4_hasWord_0 12 rfl rfl)
theorem dX4_hasWord_13 : decode cX4_hasWord 13 = .ok (.if_icmp .ge 116, 3) := dk_162 0 116 (dk_at dksX4_hasWord_0 13 rfl rfl)
theorem dX4_hasWord_16 : decode cX4_hasWord 16 = .ok (.aload_n 0, 1) := dk_42 (dk_at dksX4_hasWord_0 16 rfl rfl)
theorem dX4_hasWord_17 : decode cX4_hasWord 17 = .ok (.iload_n 1, 1) := dk_27 (dk_at dksX4_hasWord_0 17 rfl rfl)
theorem dX4_hasWord_18 : decode cX4_hasWord 18 = .ok (.iload 4, 2) := dk_21 4 (dk_at dksX4_hasWord_0 18 rfl rfl)
theorem dX4_hasWord_20 : decode cX4_hasWord 20 = .ok (.invokevirtual 81, 3) := dk_182 0 81 (dk_at dksX4_hasWord_0 20 rfl rfl)
theorem dX4_hasWord_23 : decode cX4_hasWord 23 = .ok (.aload_n 0, 1) := dk_42 (dk_at dksX4_hasWord_0 23 rfl rfl)
theorem dX4_hasWord_24 : decode cX4_hasWord 24 = .ok (.getfield 46, 3) := dk_180 0 46 (dk_at dksX4_hasWord_1 0 rfl rfl)
theorem dX4_hasWord_27 : decode cX4_hasWord 27 = .ok (.iload_n 2, 1) := dk_28 (dk_at dksX4_hasWord_1 3 rfl rfl)
theorem dX4_hasWord_28 : decode cX4_hasWord 28 = .ok (.bipush 6, 2) := dk_16 6 (dk_at dksX4_hasWord_1 4 rfl rfl)
theorem dX4_hasWord_30 : decode cX4_hasWord 30 = .ok (.iadd, 1) := dk_96 (dk_at dksX4_hasWord_1 6 rfl rfl)
theorem dX4_hasWord_31 : decode cX4_hasWord 31 = .ok (.iaload, 1) := dk_46 (dk_at dksX4_hasWord_1 7 rfl rfl)
theorem dX4_hasWord_32 : decode cX4_hasWord 32 = .ok (.aload_n 0, 1) := dk_42 (dk_at dksX4_hasWord_1 8 rfl rfl)
theorem dX4_hasWord_33 : decode cX4_hasWord 33 = .ok (.getfield 46, 3) := dk_180 0 46 (dk_at dksX4_hasWord_1 9 rfl rfl)
theorem dX4_hasWord_36 : decode cX4_hasWord 36 = .ok (.iload_n 2, 1) := dk_28 (dk_at dksX4_hasWord_1 12 rfl rfl)
theorem dX4_hasWord_37 : decode cX4_hasWord 37 = .ok (.iconst 5, 1) := dk_8 (dk_at dksX4_hasWord_1 13 rfl rfl)
theorem dX4_hasWord_38 : decode cX4_hasWord 38 = .ok (.iadd, 1) := dk_96 (dk_at dksX4_hasWord_1 14 rfl rfl)
theorem dX4_hasWord_39 : decode cX4_hasWord 39 = .ok (.iaload, 1) := dk_46 (dk_at dksX4_hasWord_1 15 rfl rfl)
theorem dX4_hasWord_40 : decode cX4_hasWord 40 = .ok (.isub, 1) := dk_100 (dk_at dksX4_hasWord_1 16 rfl rfl)
theorem dX4_hasWord_41 : decode cX4_hasWord 41 = .ok (.if_icmp .ne 7, 3) := dk_160 0 7 (dk_at dksX4_hasWord_1 17 rfl rfl)
theorem dX4_hasWord_44 : decode cX4_hasWord 44 = .ok (.iconst 1, 1) := dk_4 (dk_at dksX4_hasWord_1 20 rfl rfl)
theorem dX4_hasWord_45 : decode cX4_hasWord 45 = .ok (.goto 4, 3) := dk_167 0 4 (dk_at dksX4_hasWord_1 21 rfl rfl)
theorem dX4_hasWord_48 : decode cX4_hasWord 48 = .ok (.iconst 0, 1) := dk_3 (dk_at dksX4_hasWord_2 0 rfl rfl)
theorem dX4_hasWord_49 : decode cX4_hasWord 49 = .ok (.istore 5, 2) := dk_54 5 (dk_at dksX4_hasWord_2 1 rfl rfl)
theorem dX4_hasWord_51 : decode cX4_hasWord 51 = .ok (.iconst 0, 1) := dk_3 (dk_at dksX4_hasWord_2 3 rfl rfl)
theorem dX4_hasWord_52 : decode cX4_hasWord 52 = .ok (.istore 6, 2) := dk_54 6 (dk_at dksX4_hasWord_2 4 rfl rfl)
theorem dX4_hasWord_54 : decode cX4_hasWord 54 = .ok (.iload 6, 2) := dk_21 6 (dk_at dksX4_hasWord_2 6 rfl rfl)
theorem dX4_hasWord_56 : decode cX4_hasWord 56 = .ok (.aload_n 0, 1) := dk_42 (dk_at dksX4_hasWord_2 8 rfl rfl)
theorem dX4_hasWord_57 : decode cX4_hasWord 57 = .ok (.iload_n 1, 1) := dk_27 (dk_at dksX4_hasWord_2 9 rfl rfl)
theorem dX4_hasWord_58 : decode cX4_hasWord 58 = .ok (.iload 4, 2) := dk_21 4 (dk_at dksX4_hasWord_2 10 rfl rfl)
theorem dX4_hasWord_60 : decode cX4_hasWord 60 = .ok (.invokevirtual 81, 3) := dk_182 0 81 (dk_at dksX4_hasWord_2 12 rfl rfl)
theorem dX4_hasWord_63 : decode cX4_hasWord 63 = .ok (.if_icmp .ge 55, 3) := dk_162 0 55 (dk_at dksX4_hasWord_2 15 rfl rfl)
theorem dX4_hasWord_66 : decode cX4_hasWord 66 = .ok (.iload 5, 2) := dk_21 5 (dk_at dksX4_hasWord_2 18 rfl rfl)
theorem dX4_hasWord_68 : decode cX4_hasWord 68 = .ok (.ifCond .eq 50, 3) := dk_153 0 50 (dk_at dksX4_hasWord_2 20 rfl rfl)
theorem dX4_hasWord_71 : decode cX4_hasWord 71 = .ok (.aload_n 0, 1) := dk_42 (dk_at dksX4_hasWord_2 23 rfl rfl)
theorem dX4_hasWord_72 : decode cX4_hasWord 72 = .ok (.iload_n 1, 1) := dk_27 (dk_at dksX4_hasWord_3 0 rfl rfl)
theorem dX4_hasWord_73 : decode cX4_hasWord 73 = .ok (.aload_n 0, 1) := dk_42 (dk_at dksX4_hasWord_3 1 rfl rfl)
theorem dX4_hasWord_74 : decode cX4_hasWord 74 = .ok (.iload_n 1, 1) := dk_27 (dk_at dksX4_hasWord_3 2 rfl rfl)
theorem dX4_hasWord_75 : decode cX4_hasWord 75 = .ok (.iload 4, 2) := dk_21 4 (dk_at dksX4_hasWord_3 3 rfl rfl)
theorem dX4_hasWord_77 : decode cX4_hasWord 77 = .ok (.invokevirtual 78, 3) := dk_182 0 78 (dk_at dksX4_hasWord_3 5 rfl rfl)
theorem dX4_hasWord_80 : decode cX4_hasWord 80 = .ok (.iload 6, 2) := dk_21 6 (dk_at dksX4_hasWord_3 8 rfl rfl)
theorem dX4_hasWord_82 : decode cX4_hasWord 82 = .ok (.iadd, 1) := dk_96 (dk_at dksX4_hasWord_3 10 rfl rfl)
theorem dX4_hasWord_83 : decode cX4_hasWord 83 = .ok (.invokevirtual 67, 3) := dk_182 0 67 (dk_at dksX4_hasWord_3 11 rfl rfl)
theorem dX4_hasWord_86 : decode cX4_hasWord 86 = .ok (.aload_n 0, 1) := dk_42 (dk_at dksX4_hasWord_3 14 rfl rfl)
theorem dX4_hasWord_87 : decode cX4_hasWord 87 = .ok (.getfield 49, 3) := dk_180 0 49 (dk_at dksX4_hasWord_3 15 rfl rfl)
theorem dX4_hasWord_90 : decode cX4_hasWord 90 = .ok (.aload_n 0, 1) := dk_42 (dk_at dksX4_hasWord_3 18 rfl rfl)
theorem dX4_hasWord_91 : decode cX4_hasWord 91 = .ok (.getfield 46, 3) := dk_180 0 46 (dk_at dksX4_hasWord_3 19 rfl rfl)
theorem dX4_hasWord_94 : decode cX4_hasWord 94 = .ok (.iload_n 2, 1) := dk_28 (dk_at dksX4_hasWord_3 22 rfl rfl)
theorem dX4_hasWord_95 : decode cX4_hasWord 95 = .ok (.iconst 5, 1) := dk_8 (dk_at dksX4_hasWord_3 23 rfl rfl)
theorem dX4_hasWord_96 : decode cX4_hasWord 96 = .ok (.iadd, 1) := dk_96 (dk_at dksX4_hasWord_4 0 rfl rfl)
theorem dX4_hasWord_97 : decode cX4_hasWord 97 = .ok (.iaload, 1) := dk_46 (dk_at dksX4_hasWord_4 1 rfl rfl)
theorem dX4_hasWord_98 : decode cX4_hasWord 98 = .ok (.iload 6, 2) := dk_21 6 (dk_at dksX4_hasWord_4 2 rfl rfl)
theorem dX4_hasWord_100 : decode cX4_hasWord 100 = .ok (.iadd, 1) := dk_96 (dk_at dksX4_hasWord_4 4 rfl rfl)
theorem dX4_hasWord_101 : decode cX4_hasWord 101 = .ok (.iaload, 1) := dk_46 (dk_at dksX4_hasWord_4 5 rfl rfl)
theorem dX4_hasWord_102 : decode cX4_hasWord 102 = .ok (.if_icmp .ne 7, 3) := dk_160 0 7 (dk_at dksX4_hasWord_4 6 rfl rfl)
theorem dX4_hasWord_105 : decode cX4_hasWord 105 = .ok (.iconst 1, 1) := dk_4 (dk_at dksX4_hasWord_4 9 rfl rfl)
theorem dX4_hasWord_106 : decode cX4_hasWord 106 = .ok (.goto 4, 3) := dk_167 0 4 (dk_at dksX4_hasWord_4 10 rfl rfl)
theorem dX4_hasWord_109 : decode cX4_hasWord 109 = .ok (.iconst 0, 1) := dk_3 (dk_at dksX4_hasWord_4 13 rfl rfl)
theorem dX4_hasWord_110 : decode cX4_hasWord 110 = .ok (.istore 5, 2) := dk_54 5 (dk_at dksX4_hasWord_4 14 rfl rfl)
theorem dX4_hasWord_112 : decode cX4_hasWord 112 = .ok (.iinc 6 1, 3) := dk_132 6 1 (dk_at dksX4_hasWord_4 16 rfl rfl)
theorem dX4_hasWord_115 : decode cX4_hasWord 115 = .ok (.goto (-61), 3) := dk_167 255 195 (dk_at dksX4_hasWord_4 19 rfl rfl)
theorem dX4_hasWord_118 : decode cX4_hasWord 118 = .ok (.iload_n 3, 1) := dk_29 (dk_at dksX4_hasWord_4 22 rfl rfl)
theorem dX4_hasWord_119 : decode cX4_hasWord 119 = .ok (.iload 5, 2) := dk_21 5 (dk_at dksX4_hasWord_5 0 rfl rfl)
theorem dX4_hasWord_121 : decode cX4_hasWord 121 = .ok (.ior, 1) := dk_128 (dk_at dksX4_hasWord_5 2 rfl rfl)
theorem dX4_hasWord_122 : decode cX4_hasWord 122 = .ok (.istore_n 3, 1) := dk_62 (dk_at dksX4_hasWord_5 3 rfl rfl)
theorem dX4_hasWord_123 : decode cX4_hasWord 123 = .ok (.iinc 4 1, 3) := dk_132 4 1 (dk_at dksX4_hasWord_5 4 rfl rfl)
theorem dX4_hasWord_126 : decode cX4_hasWord 126 = .ok (.goto (-121), 3) := dk_167 255 135 (dk_at dksX4_hasWord_5 7 rfl rfl)
theorem dX4_hasWord_129 : decode cX4_hasWord 129 = .ok (.iload_n 3, 1) := dk_29 (dk_at dksX4_hasWord_5 10 rfl rfl)
theorem dX4_hasWord_130 : decode cX4_hasWord 130 = .ok (.ireturn, 1) := dk_172 (dk_at dksX4_hasWord_5 11 rfl rfl)
abbrev cX4_compares : ByteArray := prog_17_method_82_code
def yX4_compares : MethodName := ⟨RX4, "compares", "(II)Z"⟩
def dkwX4_compares_5 : List UInt8 := [21, 5, 42, 180, 0, 46, 28, 7, 96, 46, 164, 0, 7, 4, 167, 0, 4, 3, 172]
abbrev dktX4_compares_5 : List UInt8 := dkwX4_compares_5 ++ []
def dkwX4_compares_4 : List UInt8 := [160, 0, 24, 21, 5, 42, 180, 0, 46, 28, 7, 96, 46, 160, 0, 7, 4, 167, 0, 25, 3, 167, 0, 21]
abbrev dktX4_compares_4 : List UInt8 := dkwX4_compares_4 ++ dktX4_compares_5
def dkwX4_compares_3 : List UInt8 := [42, 180, 0, 46, 28, 7, 96, 46, 162, 0, 7, 4, 167, 0, 53, 3, 167, 0, 49, 21, 6, 16, 61]
abbrev dktX4_compares_3 : List UInt8 := dkwX4_compares_3 ++ dktX4_compares_4
def dkwX4_compares_2 : List UInt8 := [182, 0, 188, 54, 5, 42, 180, 0, 46, 28, 6, 96, 46, 54, 6, 21, 6, 16, 60, 160, 0, 24, 21, 5]
abbrev dktX4_compares_2 : List UInt8 := dkwX4_compares_2 ++ dktX4_compares_3
def dkwX4_compares_1 : List UInt8 := [54, 4, 21, 4, 155, 0, 14, 42, 27, 21, 4, 182, 0, 108, 5, 159, 0, 5, 3, 172, 42, 27, 21, 4]
abbrev dktX4_compares_1 : List UInt8 := dkwX4_compares_1 ++ dktX4_compares_2
def dkwX4_compares_0 : List UInt8 := [42, 180, 0, 9, 16, 43, 27, 96, 46, 62, 42, 29, 42, 180, 0, 46, 28, 5, 96, 46, 182, 0, 179]
abbrev dktX4_compares_0 : List UInt8 := dkwX4_compares_0 ++ dktX4_compares_1
theorem dksX4_compares_0 : cX4_compares.data.toList.drop 0 = dktX4_compares_0 := by decide +kernel
theorem dksX4_compares_1 : cX4_compares.data.toList.drop 23 = dktX4_compares_1 := dk_seg dksX4_compares_0 23 rfl rfl
theorem dksX4_compares_2 : cX4_compares.data.toList.drop 47 = dktX4_compares_2 := dk_seg dksX4_compares_1 24 rfl rfl
theorem dksX4_compares_3 : cX4_compares.data.toList.drop 71 = dktX4_compares_3 := dk_seg dksX4_compares_2 24 rfl rfl
theorem dksX4_compares_4 : cX4_compares.data.toList.drop 94 = dktX4_compares_4 := dk_seg dksX4_compares_3 23 rfl rfl
theorem dksX4_compares_5 : cX4_compares.data.toList.drop 118 = dktX4_compares_5 := dk_seg dksX4_compares_4 24 rfl rfl
theorem dX4_compares_0 : decode cX4_compares 0 = .ok (.aload_n 0, 1) := dk_42 (dk_at dksX4_compares_0 0 rfl rfl)
theorem dX4_compares_1 : decode cX4_compares 1 = .ok (.getfield 9, 3) := dk_180 0 9 (dk_at dksX4_compares_0 1 rfl rfl)
theorem dX4_compares_4 : decode cX4_compares 4 = .ok (.bipush 43, 2) := dk_16 43 (dk_at dksX4_compares_0 4 rfl rfl)
theorem dX4_compares_6 : decode cX4_compares 6 = .ok (.iload_n 1, 1) := dk_27 (dk_at dksX4_compares_0 6 rfl rfl)
theorem dX4_compares_7 : decode cX4_compares 7 = .ok (.iadd, 1) := dk_96 (dk_at dksX4_compares_0 7 rfl rfl)
theorem dX4_compares_8 : decode cX4_compares 8 = .ok (.iaload, 1) := dk_46 (dk_at dksX4_compares_0 8 rfl rfl)
theorem dX4_compares_9 : decode cX4_compares 9 = .ok (.istore_n 3, 1) := dk_62 (dk_at dksX4_compares_0 9 rfl rfl)
theorem dX4_compares_10 : decode cX4_compares 10 = .ok (.aload_n 0, 1) := dk_42 (dk_at dksX4_compares_0 10 rfl rfl)
theorem dX4_compares_11 : decode cX4_compares 11 = .ok (.iload_n 3, 1) := dk_29 (dk_at dksX4_compares_0 11 rfl rfl)
theorem dX4_compares_12 : decode cX4_compares 12 = .ok (.aload_n 0, 1) := dk_42 (dk_at dksX4_compares_0 12 rfl rfl)
theorem dX4_compares_13 : decode cX4_compares 13 = .ok (.getfield 46, 3) := dk_180 0 46 (dk_at dksX4_compares_0 13 rfl rfl)
theorem dX4_compares_16 : decode cX4_compares 16 = .ok (.iload_n 2, 1) := dk_28 (dk_at dksX4_compares_0 16 rfl rfl)
theorem dX4_compares_17 : decode cX4_compares 17 = .ok (.iconst 2, 1) := dk_5 (dk_at dksX4_compares_0 17 rfl rfl)
theorem dX4_compares_18 : decode cX4_compares 18 = .ok (.iadd, 1) := dk_96 (dk_at dksX4_compares_0 18 rfl rfl)
theorem dX4_compares_19 : decode cX4_compares 19 = .ok (.iaload, 1) := dk_46 (dk_at dksX4_compares_0 19 rfl rfl)
theorem dX4_compares_20 : decode cX4_compares 20 = .ok (.invokevirtual 179, 3) := dk_182 0 179 (dk_at dksX4_compares_0 20 rfl rfl)
theorem dX4_compares_23 : decode cX4_compares 23 = .ok (.istore 4, 2) := dk_54 4 (dk_at dksX4_compares_1 0 rfl rfl)
theorem dX4_compares_25 : decode cX4_compares 25 = .ok (.iload 4, 2) := dk_21 4 (dk_at dksX4_compares_1 2 rfl rfl)
theorem dX4_compares_27 : decode cX4_compares 27 = .ok (.ifCond .lt 14, 3) := dk_155 0 14 (dk_at dksX4_compares_1 4 rfl rfl)
theorem dX4_compares_30 : decode cX4_compares 30 = .ok (.aload_n 0, 1) := dk_42 (dk_at dksX4_compares_1 7 rfl rfl)
theorem dX4_compares_31 : decode cX4_compares 31 = .ok (.iload_n 1, 1) := dk_27 (dk_at dksX4_compares_1 8 rfl rfl)
theorem dX4_compares_32 : decode cX4_compares 32 = .ok (.iload 4, 2) := dk_21 4 (dk_at dksX4_compares_1 9 rfl rfl)
theorem dX4_compares_34 : decode cX4_compares 34 = .ok (.invokevirtual 108, 3) := dk_182 0 108 (dk_at dksX4_compares_1 11 rfl rfl)
theorem dX4_compares_37 : decode cX4_compares 37 = .ok (.iconst 2, 1) := dk_5 (dk_at dksX4_compares_1 14 rfl rfl)
theorem dX4_compares_38 : decode cX4_compares 38 = .ok (.if_icmp .eq 5, 3) := dk_159 0 5 (dk_at dksX4_compares_1 15 rfl rfl)
theorem dX4_compares_41 : decode cX4_compares 41 = .ok (.iconst 0, 1) := dk_3 (dk_at dksX4_compares_1 18 rfl rfl)
theorem dX4_compares_42 : decode cX4_compares 42 = .ok (.ireturn, 1) := dk_172 (dk_at dksX4_compares_1 19 rfl rfl)
theorem dX4_compares_43 : decode cX4_compares 43 = .ok (.aload_n 0, 1) := dk_42 (dk_at dksX4_compares_1 20 rfl rfl)
theorem dX4_compares_44 : decode cX4_compares 44 = .ok (.iload_n 1, 1) := dk_27 (dk_at dksX4_compares_1 21 rfl rfl)
theorem dX4_compares_45 : decode cX4_compares 45 = .ok (.iload 4, 2) := dk_21 4 (dk_at dksX4_compares_1 22 rfl rfl)
theorem dX4_compares_47 : decode cX4_compares 47 = .ok (.invokevirtual 188, 3) := dk_182 0 188 (dk_at dksX4_compares_2 0 rfl rfl)
theorem dX4_compares_50 : decode cX4_compares 50 = .ok (.istore 5, 2) := dk_54 5 (dk_at dksX4_compares_2 3 rfl rfl)
theorem dX4_compares_52 : decode cX4_compares 52 = .ok (.aload_n 0, 1) := dk_42 (dk_at dksX4_compares_2 5 rfl rfl)
theorem dX4_compares_53 : decode cX4_compares 53 = .ok (.getfield 46, 3) := dk_180 0 46 (dk_at dksX4_compares_2 6 rfl rfl)
theorem dX4_compares_56 : decode cX4_compares 56 = .ok (.iload_n 2, 1) := dk_28 (dk_at dksX4_compares_2 9 rfl rfl)
theorem dX4_compares_57 : decode cX4_compares 57 = .ok (.iconst 3, 1) := dk_6 (dk_at dksX4_compares_2 10 rfl rfl)
theorem dX4_compares_58 : decode cX4_compares 58 = .ok (.iadd, 1) := dk_96 (dk_at dksX4_compares_2 11 rfl rfl)
theorem dX4_compares_59 : decode cX4_compares 59 = .ok (.iaload, 1) := dk_46 (dk_at dksX4_compares_2 12 rfl rfl)
theorem dX4_compares_60 : decode cX4_compares 60 = .ok (.istore 6, 2) := dk_54 6 (dk_at dksX4_compares_2 13 rfl rfl)
theorem dX4_compares_62 : decode cX4_compares 62 = .ok (.iload 6, 2) := dk_21 6 (dk_at dksX4_compares_2 15 rfl rfl)
theorem dX4_compares_64 : decode cX4_compares 64 = .ok (.bipush 60, 2) := dk_16 60 (dk_at dksX4_compares_2 17 rfl rfl)
theorem dX4_compares_66 : decode cX4_compares 66 = .ok (.if_icmp .ne 24, 3) := dk_160 0 24 (dk_at dksX4_compares_2 19 rfl rfl)
theorem dX4_compares_69 : decode cX4_compares 69 = .ok (.iload 5, 2) := dk_21 5 (dk_at dksX4_compares_2 22 rfl rfl)
theorem dX4_compares_71 : decode cX4_compares 71 = .ok (.aload_n 0, 1) := dk_42 (dk_at dksX4_compares_3 0 rfl rfl)
theorem dX4_compares_72 : decode cX4_compares 72 = .ok (.getfield 46, 3) := dk_180 0 46 (dk_at dksX4_compares_3 1 rfl rfl)
theorem dX4_compares_75 : decode cX4_compares 75 = .ok (.iload_n 2, 1) := dk_28 (dk_at dksX4_compares_3 4 rfl rfl)
theorem dX4_compares_76 : decode cX4_compares 76 = .ok (.iconst 4, 1) := dk_7 (dk_at dksX4_compares_3 5 rfl rfl)
theorem dX4_compares_77 : decode cX4_compares 77 = .ok (.iadd, 1) := dk_96 (dk_at dksX4_compares_3 6 rfl rfl)
theorem dX4_compares_78 : decode cX4_compares 78 = .ok (.iaload, 1) := dk_46 (dk_at dksX4_compares_3 7 rfl rfl)
theorem dX4_compares_79 : decode cX4_compares 79 = .ok (.if_icmp .ge 7, 3) := dk_162 0 7 (dk_at dksX4_compares_3 8 rfl rfl)
theorem dX4_compares_82 : decode cX4_compares 82 = .ok (.iconst 1, 1) := dk_4 (dk_at dksX4_compares_3 11 rfl rfl)
theorem dX4_compares_83 : decode cX4_compares 83 = .ok (.goto 53, 3) := dk_167 0 53 (dk_at dksX4_compares_3 12 rfl rfl)
theorem dX4_compares_86 : decode cX4_compares 86 = .ok (.iconst 0, 1) := dk_3 (dk_at dksX4_compares_3 15 rfl rfl)
theorem dX4_compares_87 : decode cX4_compares 87 = .ok (.goto 49, 3) := dk_167 0 49 (dk_at dksX4_compares_3 16 rfl rfl)
theorem dX4_compares_90 : decode cX4_compares 90 = .ok (.iload 6, 2) := dk_21 6 (dk_at dksX4_compares_3 19 rfl rfl)
theorem dX4_compares_92 : decode cX4_compares 92 = .ok (.bipush 61, 2) := dk_16 61 (dk_at dksX4_compares_3 21 rfl rfl)
theorem dX4_compares_94 : decode cX4_compares 94 = .ok (.if_icmp .ne 24, 3) := dk_160 0 24 (dk_at dksX4_compares_4 0 rfl rfl)
theorem dX4_compares_97 : decode cX4_compares 97 = .ok (.iload 5, 2) := dk_21 5 (dk_at dksX4_compares_4 3 rfl rfl)
theorem dX4_compares_99 : decode cX4_compares 99 = .ok (.aload_n 0, 1) := dk_42 (dk_at dksX4_compares_4 5 rfl rfl)
theorem dX4_compares_100 : decode cX4_compares 100 = .ok (.getfield 46, 3) := dk_180 0 46 (dk_at dksX4_compares_4 6 rfl rfl)
theorem dX4_compares_103 : decode cX4_compares 103 = .ok (.iload_n 2, 1) := dk_28 (dk_at dksX4_compares_4 9 rfl rfl)
theorem dX4_compares_104 : decode cX4_compares 104 = .ok (.iconst 4, 1) := dk_7 (dk_at dksX4_compares_4 10 rfl rfl)
theorem dX4_compares_105 : decode cX4_compares 105 = .ok (.iadd, 1) := dk_96 (dk_at dksX4_compares_4 11 rfl rfl)
theorem dX4_compares_106 : decode cX4_compares 106 = .ok (.iaload, 1) := dk_46 (dk_at dksX4_compares_4 12 rfl rfl)
theorem dX4_compares_107 : decode cX4_compares 107 = .ok (.if_icmp .ne 7, 3) := dk_160 0 7 (dk_at dksX4_compares_4 13 rfl rfl)
theorem dX4_compares_110 : decode cX4_compares 110 = .ok (.iconst 1, 1) := dk_4 (dk_at dksX4_compares_4 16 rfl rfl)
theorem dX4_compares_111 : decode cX4_compares 111 = .ok (.goto 25, 3) := dk_167 0 25 (dk_at dksX4_compares_4 17 rfl rfl)
theorem dX4_compares_114 : decode cX4_compares 114 = .ok (.iconst 0, 1) := dk_3 (dk_at dksX4_compares_4 20 rfl rfl)
theorem dX4_compares_115 : decode cX4_compares 115 = .ok (.goto 21, 3) := dk_167 0 21 (dk_at dksX4_compares_4 21 rfl rfl)
theorem dX4_compares_118 : decode cX4_compares 118 = .ok (.iload 5, 2) := dk_21 5 (dk_at dksX4_compares_5 0 rfl rfl)
theorem dX4_compares_120 : decode cX4_compares 120 = .ok (.aload_n 0, 1) := dk_42 (dk_at dksX4_compares_5 2 rfl rfl)
theorem dX4_compares_121 : decode cX4_compares 121 = .ok (.getfield 46, 3) := dk_180 0 46 (dk_at dksX4_compares_5 3 rfl rfl)
theorem dX4_compares_124 : decode cX4_compares 124 = .ok (.iload_n 2, 1) := dk_28 (dk_at dksX4_compares_5 6 rfl rfl)
theorem dX4_compares_125 : decode cX4_compares 125 = .ok (.iconst 4, 1) := dk_7 (dk_at dksX4_compares_5 7 rfl rfl)
theorem dX4_compares_126 : decode cX4_compares 126 = .ok (.iadd, 1) := dk_96 (dk_at dksX4_compares_5 8 rfl rfl)
theorem dX4_compares_127 : decode cX4_compares 127 = .ok (.iaload, 1) := dk_46 (dk_at dksX4_compares_5 9 rfl rfl)
theorem dX4_compares_128 : decode cX4_compares 128 = .ok (.if_icmp .le 7, 3) := dk_164 0 7 (dk_at dksX4_compares_5 10 rfl rfl)
theorem dX4_compares_131 : decode cX4_compares 131 = .ok (.iconst 1, 1) := dk_4 (dk_at dksX4_compares_5 13 rfl rfl)
theorem dX4_compares_132 : decode cX4_compares 132 = .ok (.goto 4, 3) := dk_167 0 4 (dk_at dksX4_compares_5 14 rfl rfl)
theorem dX4_compares_135 : decode cX4_compares 135 = .ok (.iconst 0, 1) := dk_3 (dk_at dksX4_compares_5 17 rfl rfl)
theorem dX4_compares_136 : decode cX4_compares 136 = .ok (.ireturn, 1) := dk_172 (dk_at dksX4_compares_5 18 rfl rfl)
abbrev cX4_hit : ByteArray := prog_17_method_87_code
def yX4_hit : MethodName := ⟨RX4, "hit", "(I)I"⟩
def dkwX4_hit_3 : List UInt8 := [167, 0, 4, 3, 100, 61, 132, 3, 1, 167, 255, 223, 29, 172]
abbrev dktX4_hit_3 : List UInt8 := dkwX4_hit_3 ++ []
def dkwX4_hit_2 : List UInt8 := [42, 29, 2, 182, 1, 20, 153, 0, 7, 28, 158, 0, 26, 28, 42, 29, 2, 182, 1, 20, 153, 0, 7, 4]
abbrev dktX4_hit_2 : List UInt8 := dkwX4_hit_2 ++ dktX4_hit_3
def dkwX4_hit_1 : List UInt8 := [154, 0, 7, 5, 167, 0, 4, 3, 181, 0, 55, 42, 180, 0, 55, 158, 0, 5, 3, 172, 27, 61, 3, 62]
abbrev dktX4_hit_1 : List UInt8 := dkwX4_hit_1 ++ dktX4_hit_2
def dkwX4_hit_0 : List UInt8 := [42, 42, 180, 1, 26, 154, 0, 7, 4, 167, 0, 22, 27, 3, 42, 182, 1, 29, 4, 100, 184, 0, 59]
abbrev dktX4_hit_0 : List UInt8 := dkwX4_hit_0 ++ dktX4_hit_1
theorem dksX4_hit_0 : cX4_hit.data.toList.drop 0 = dktX4_hit_0 := by decide +kernel
theorem dksX4_hit_1 : cX4_hit.data.toList.drop 23 = dktX4_hit_1 := dk_seg dksX4_hit_0 23 rfl rfl
theorem dksX4_hit_2 : cX4_hit.data.toList.drop 47 = dktX4_hit_2 := dk_seg dksX4_hit_1 24 rfl rfl
theorem dksX4_hit_3 : cX4_hit.data.toList.drop 71 = dktX4_hit_3 := dk_seg dksX4_hit_2 24 rfl rfl
theorem dX4_hit_0 : decode cX4_hit 0 = .ok (.aload_n 0, 1) := dk_42 (dk_at dksX4_hit_0 0 rfl rfl)
theorem dX4_hit_1 : decode cX4_hit 1 = .ok (.aload_n 0, 1) := dk_42 (dk_at dksX4_hit_0 1 rfl rfl)
theorem dX4_hit_2 : decode cX4_hit 2 = .ok (.getfield 282, 3) := dk_180 1 26 (dk_at dksX4_hit_0 2 rfl rfl)
theorem dX4_hit_5 : decode cX4_hit 5 = .ok (.ifCond .ne 7, 3) := dk_154 0 7 (dk_at dksX4_hit_0 5 rfl rfl)
theorem dX4_hit_8 : decode cX4_hit 8 = .ok (.iconst 1, 1) := dk_4 (dk_at dksX4_hit_0 8 rfl rfl)
theorem dX4_hit_9 : decode cX4_hit 9 = .ok (.goto 22, 3) := dk_167 0 22 (dk_at dksX4_hit_0 9 rfl rfl)
theorem dX4_hit_12 : decode cX4_hit 12 = .ok (.iload_n 1, 1) := dk_27 (dk_at dksX4_hit_0 12 rfl rfl)
theorem dX4_hit_13 : decode cX4_hit 13 = .ok (.iconst 0, 1) := dk_3 (dk_at dksX4_hit_0 13 rfl rfl)
theorem dX4_hit_14 : decode cX4_hit 14 = .ok (.aload_n 0, 1) := dk_42 (dk_at dksX4_hit_0 14 rfl rfl)
theorem dX4_hit_15 : decode cX4_hit 15 = .ok (.invokevirtual 285, 3) := dk_182 1 29 (dk_at dksX4_hit_0 15 rfl rfl)
theorem dX4_hit_18 : decode cX4_hit 18 = .ok (.iconst 1, 1) := dk_4 (dk_at dksX4_hit_0 18 rfl rfl)
theorem dX4_hit_19 : decode cX4_hit 19 = .ok (.isub, 1) := dk_100 (dk_at dksX4_hit_0 19 rfl rfl)
theorem dX4_hit_20 : decode cX4_hit 20 = .ok (.invokestatic 59, 3) := dk_184 0 59 (dk_at dksX4_hit_0 20 rfl rfl)
theorem dX4_hit_23 : decode cX4_hit 23 = .ok (.ifCond .ne 7, 3) := dk_154 0 7 (dk_at dksX4_hit_1 0 rfl rfl)
theorem dX4_hit_26 : decode cX4_hit 26 = .ok (.iconst 2, 1) := dk_5 (dk_at dksX4_hit_1 3 rfl rfl)
theorem dX4_hit_27 : decode cX4_hit 27 = .ok (.goto 4, 3) := dk_167 0 4 (dk_at dksX4_hit_1 4 rfl rfl)
theorem dX4_hit_30 : decode cX4_hit 30 = .ok (.iconst 0, 1) := dk_3 (dk_at dksX4_hit_1 7 rfl rfl)
theorem dX4_hit_31 : decode cX4_hit 31 = .ok (.putfield 55, 3) := dk_181 0 55 (dk_at dksX4_hit_1 8 rfl rfl)
theorem dX4_hit_34 : decode cX4_hit 34 = .ok (.aload_n 0, 1) := dk_42 (dk_at dksX4_hit_1 11 rfl rfl)
theorem dX4_hit_35 : decode cX4_hit 35 = .ok (.getfield 55, 3) := dk_180 0 55 (dk_at dksX4_hit_1 12 rfl rfl)
theorem dX4_hit_38 : decode cX4_hit 38 = .ok (.ifCond .le 5, 3) := dk_158 0 5 (dk_at dksX4_hit_1 15 rfl rfl)
theorem dX4_hit_41 : decode cX4_hit 41 = .ok (.iconst 0, 1) := dk_3 (dk_at dksX4_hit_1 18 rfl rfl)
theorem dX4_hit_42 : decode cX4_hit 42 = .ok (.ireturn, 1) := dk_172 (dk_at dksX4_hit_1 19 rfl rfl)
theorem dX4_hit_43 : decode cX4_hit 43 = .ok (.iload_n 1, 1) := dk_27 (dk_at dksX4_hit_1 20 rfl rfl)
theorem dX4_hit_44 : decode cX4_hit 44 = .ok (.istore_n 2, 1) := dk_61 (dk_at dksX4_hit_1 21 rfl rfl)
theorem dX4_hit_45 : decode cX4_hit 45 = .ok (.iconst 0, 1) := dk_3 (dk_at dksX4_hit_1 22 rfl rfl)
theorem dX4_hit_46 : decode cX4_hit 46 = .ok (.istore_n 3, 1) := dk_62 (dk_at dksX4_hit_1 23 rfl rfl)
theorem dX4_hit_47 : decode cX4_hit 47 = .ok (.aload_n 0, 1) := dk_42 (dk_at dksX4_hit_2 0 rfl rfl)
theorem dX4_hit_48 : decode cX4_hit 48 = .ok (.iload_n 3, 1) := dk_29 (dk_at dksX4_hit_2 1 rfl rfl)
theorem dX4_hit_49 : decode cX4_hit 49 = .ok (.iconst (-1), 1) := dk_2 (dk_at dksX4_hit_2 2 rfl rfl)
theorem dX4_hit_50 : decode cX4_hit 50 = .ok (.invokevirtual 276, 3) := dk_182 1 20 (dk_at dksX4_hit_2 3 rfl rfl)
theorem dX4_hit_53 : decode cX4_hit 53 = .ok (.ifCond .eq 7, 3) := dk_153 0 7 (dk_at dksX4_hit_2 6 rfl rfl)
theorem dX4_hit_56 : decode cX4_hit 56 = .ok (.iload_n 2, 1) := dk_28 (dk_at dksX4_hit_2 9 rfl rfl)
theorem dX4_hit_57 : decode cX4_hit 57 = .ok (.ifCond .le 26, 3) := dk_158 0 26 (dk_at dksX4_hit_2 10 rfl rfl)
theorem dX4_hit_60 : decode cX4_hit 60 = .ok (.iload_n 2, 1) := dk_28 (dk_at dksX4_hit_2 13 rfl rfl)
theorem dX4_hit_61 : decode cX4_hit 61 = .ok (.aload_n 0, 1) := dk_42 (dk_at dksX4_hit_2 14 rfl rfl)
theorem dX4_hit_62 : decode cX4_hit 62 = .ok (.iload_n 3, 1) := dk_29 (dk_at dksX4_hit_2 15 rfl rfl)
theorem dX4_hit_63 : decode cX4_hit 63 = .ok (.iconst (-1), 1) := dk_2 (dk_at dksX4_hit_2 16 rfl rfl)
theorem dX4_hit_64 : decode cX4_hit 64 = .ok (.invokevirtual 276, 3) := dk_182 1 20 (dk_at dksX4_hit_2 17 rfl rfl)
theorem dX4_hit_67 : decode cX4_hit 67 = .ok (.ifCond .eq 7, 3) := dk_153 0 7 (dk_at dksX4_hit_2 20 rfl rfl)
theorem dX4_hit_70 : decode cX4_hit 70 = .ok (.iconst 1, 1) := dk_4 (dk_at dksX4_hit_2 23 rfl rfl)
theorem dX4_hit_71 : decode cX4_hit 71 = .ok (.goto 4, 3) := dk_167 0 4 (dk_at dksX4_hit_3 0 rfl rfl)
theorem dX4_hit_74 : decode cX4_hit 74 = .ok (.iconst 0, 1) := dk_3 (dk_at dksX4_hit_3 3 rfl rfl)
theorem dX4_hit_75 : decode cX4_hit 75 = .ok (.isub, 1) := dk_100 (dk_at dksX4_hit_3 4 rfl rfl)
theorem dX4_hit_76 : decode cX4_hit 76 = .ok (.istore_n 2, 1) := dk_61 (dk_at dksX4_hit_3 5 rfl rfl)
theorem dX4_hit_77 : decode cX4_hit 77 = .ok (.iinc 3 1, 3) := dk_132 3 1 (dk_at dksX4_hit_3 6 rfl rfl)
theorem dX4_hit_80 : decode cX4_hit 80 = .ok (.goto (-33), 3) := dk_167 255 223 (dk_at dksX4_hit_3 9 rfl rfl)
theorem dX4_hit_83 : decode cX4_hit 83 = .ok (.iload_n 3, 1) := dk_29 (dk_at dksX4_hit_3 12 rfl rfl)
theorem dX4_hit_84 : decode cX4_hit 84 = .ok (.ireturn, 1) := dk_172 (dk_at dksX4_hit_3 13 rfl rfl)
abbrev cX4_excluded : ByteArray := prog_17_method_88_code
def yX4_excluded : MethodName := ⟨RX4, "excluded", "(I)I"⟩
def dkwX4_excluded_3 : List UInt8 := [154, 0, 7, 4, 167, 0, 4, 3, 96, 61, 132, 3, 1, 167, 255, 210, 28, 172]
abbrev dktX4_excluded_3 : List UInt8 := dkwX4_excluded_3 ++ []
def dkwX4_excluded_2 : List UInt8 := [180, 0, 55, 154, 0, 35, 28, 42, 29, 27, 182, 1, 20, 153, 0, 16, 42, 29, 27, 182, 1, 17]
abbrev dktX4_excluded_2 : List UInt8 := dkwX4_excluded_2 ++ dktX4_excluded_3
def dkwX4_excluded_1 : List UInt8 := [167, 0, 4, 4, 181, 0, 55, 3, 61, 3, 62, 29, 42, 180, 0, 9, 3, 46, 162, 0, 42, 42]
abbrev dktX4_excluded_1 : List UInt8 := dkwX4_excluded_1 ++ dktX4_excluded_2
def dkwX4_excluded_0 : List UInt8 := [42, 42, 180, 1, 26, 153, 0, 21, 27, 3, 42, 180, 1, 14, 4, 100, 184, 0, 59, 153, 0, 7, 3]
abbrev dktX4_excluded_0 : List UInt8 := dkwX4_excluded_0 ++ dktX4_excluded_1
theorem dksX4_excluded_0 : cX4_excluded.data.toList.drop 0 = dktX4_excluded_0 := by decide +kernel
theorem dksX4_excluded_1 : cX4_excluded.data.toList.drop 23 = dktX4_excluded_1 := dk_seg dksX4_excluded_0 23 rfl rfl
theorem dksX4_excluded_2 : cX4_excluded.data.toList.drop 45 = dktX4_excluded_2 := dk_seg dksX4_excluded_1 22 rfl rfl
theorem dksX4_excluded_3 : cX4_excluded.data.toList.drop 67 = dktX4_excluded_3 := dk_seg dksX4_excluded_2 22 rfl rfl
theorem dX4_excluded_0 : decode cX4_excluded 0 = .ok (.aload_n 0, 1) := dk_42 (dk_at dksX4_excluded_0 0 rfl rfl)
theorem dX4_excluded_1 : decode cX4_excluded 1 = .ok (.aload_n 0, 1) := dk_42 (dk_at dksX4_excluded_0 1 rfl rfl)
theorem dX4_excluded_2 : decode cX4_excluded 2 = .ok (.getfield 282, 3) := dk_180 1 26 (dk_at dksX4_excluded_0 2 rfl rfl)
theorem dX4_excluded_5 : decode cX4_excluded 5 = .ok (.ifCond .eq 21, 3) := dk_153 0 21 (dk_at dksX4_excluded_0 5 rfl rfl)
theorem dX4_excluded_8 : decode cX4_excluded 8 = .ok (.iload_n 1, 1) := dk_27 (dk_at dksX4_excluded_0 8 rfl rfl)
theorem dX4_excluded_9 : decode cX4_excluded 9 = .ok (.iconst 0, 1) := dk_3 (dk_at dksX4_excluded_0 9 rfl rfl)
theorem dX4_excluded_10 : decode cX4_excluded 10 = .ok (.aload_n 0, 1) := dk_42 (dk_at dksX4_excluded_0 10 rfl rfl)
theorem dX4_excluded_11 : decode cX4_excluded 11 = .ok (.getfield 270, 3) := dk_180 1 14 (dk_at dksX4_excluded_0 11 rfl rfl)
theorem dX4_excluded_14 : decode cX4_excluded 14 = .ok (.iconst 1, 1) := dk_4 (dk_at dksX4_excluded_0 14 rfl rfl)
theorem dX4_excluded_15 : decode cX4_excluded 15 = .ok (.isub, 1) := dk_100 (dk_at dksX4_excluded_0 15 rfl rfl)
theorem dX4_excluded_16 : decode cX4_excluded 16 = .ok (.invokestatic 59, 3) := dk_184 0 59 (dk_at dksX4_excluded_0 16 rfl rfl)
theorem dX4_excluded_19 : decode cX4_excluded 19 = .ok (.ifCond .eq 7, 3) := dk_153 0 7 (dk_at dksX4_excluded_0 19 rfl rfl)
theorem dX4_excluded_22 : decode cX4_excluded 22 = .ok (.iconst 0, 1) := dk_3 (dk_at dksX4_excluded_0 22 rfl rfl)
theorem dX4_excluded_23 : decode cX4_excluded 23 = .ok (.goto 4, 3) := dk_167 0 4 (dk_at dksX4_excluded_1 0 rfl rfl)
theorem dX4_excluded_26 : decode cX4_excluded 26 = .ok (.iconst 1, 1) := dk_4 (dk_at dksX4_excluded_1 3 rfl rfl)
theorem dX4_excluded_27 : decode cX4_excluded 27 = .ok (.putfield 55, 3) := dk_181 0 55 (dk_at dksX4_excluded_1 4 rfl rfl)
theorem dX4_excluded_30 : decode cX4_excluded 30 = .ok (.iconst 0, 1) := dk_3 (dk_at dksX4_excluded_1 7 rfl rfl)
theorem dX4_excluded_31 : decode cX4_excluded 31 = .ok (.istore_n 2, 1) := dk_61 (dk_at dksX4_excluded_1 8 rfl rfl)
theorem dX4_excluded_32 : decode cX4_excluded 32 = .ok (.iconst 0, 1) := dk_3 (dk_at dksX4_excluded_1 9 rfl rfl)
theorem dX4_excluded_33 : decode cX4_excluded 33 = .ok (.istore_n 3, 1) := dk_62 (dk_at dksX4_excluded_1 10 rfl rfl)
theorem dX4_excluded_34 : decode cX4_excluded 34 = .ok (.iload_n 3, 1) := dk_29 (dk_at dksX4_excluded_1 11 rfl rfl)
theorem dX4_excluded_35 : decode cX4_excluded 35 = .ok (.aload_n 0, 1) := dk_42 (dk_at dksX4_excluded_1 12 rfl rfl)
theorem dX4_excluded_36 : decode cX4_excluded 36 = .ok (.getfield 9, 3) := dk_180 0 9 (dk_at dksX4_excluded_1 13 rfl rfl)
theorem dX4_excluded_39 : decode cX4_excluded 39 = .ok (.iconst 0, 1) := dk_3 (dk_at dksX4_excluded_1 16 rfl rfl)
theorem dX4_excluded_40 : decode cX4_excluded 40 = .ok (.iaload, 1) := dk_46 (dk_at dksX4_excluded_1 17 rfl rfl)
theorem dX4_excluded_41 : decode cX4_excluded 41 = .ok (.if_icmp .ge 42, 3) := dk_162 0 42 (dk_at dksX4_excluded_1 18 rfl rfl)
theorem dX4_excluded_44 : decode cX4_excluded 44 = .ok (.aload_n 0, 1) := dk_42 (dk_at dksX4_excluded_1 21 rfl rfl)
theorem dX4_excluded_45 : decode cX4_excluded 45 = .ok (.getfield 55, 3) := dk_180 0 55 (dk_at dksX4_excluded_2 0 rfl rfl)
theorem dX4_excluded_48 : decode cX4_excluded 48 = .ok (.ifCond .ne 35, 3) := dk_154 0 35 (dk_at dksX4_excluded_2 3 rfl rfl)
theorem dX4_excluded_51 : decode cX4_excluded 51 = .ok (.iload_n 2, 1) := dk_28 (dk_at dksX4_excluded_2 6 rfl rfl)
theorem dX4_excluded_52 : decode cX4_excluded 52 = .ok (.aload_n 0, 1) := dk_42 (dk_at dksX4_excluded_2 7 rfl rfl)
theorem dX4_excluded_53 : decode cX4_excluded 53 = .ok (.iload_n 3, 1) := dk_29 (dk_at dksX4_excluded_2 8 rfl rfl)
theorem dX4_excluded_54 : decode cX4_excluded 54 = .ok (.iload_n 1, 1) := dk_27 (dk_at dksX4_excluded_2 9 rfl rfl)
theorem dX4_excluded_55 : decode cX4_excluded 55 = .ok (.invokevirtual 276, 3) := dk_182 1 20 (dk_at dksX4_excluded_2 10 rfl rfl)
theorem dX4_excluded_58 : decode cX4_excluded 58 = .ok (.ifCond .eq 16, 3) := dk_153 0 16 (dk_at dksX4_excluded_2 13 rfl rfl)
theorem dX4_excluded_61 : decode cX4_excluded 61 = .ok (.aload_n 0, 1) := dk_42 (dk_at dksX4_excluded_2 16 rfl rfl)
theorem dX4_excluded_62 : decode cX4_excluded 62 = .ok (.iload_n 3, 1) := dk_29 (dk_at dksX4_excluded_2 17 rfl rfl)
theorem dX4_excluded_63 : decode cX4_excluded 63 = .ok (.iload_n 1, 1) := dk_27 (dk_at dksX4_excluded_2 18 rfl rfl)
theorem dX4_excluded_64 : decode cX4_excluded 64 = .ok (.invokevirtual 273, 3) := dk_182 1 17 (dk_at dksX4_excluded_2 19 rfl rfl)
theorem dX4_excluded_67 : decode cX4_excluded 67 = .ok (.ifCond .ne 7, 3) := dk_154 0 7 (dk_at dksX4_excluded_3 0 rfl rfl)
theorem dX4_excluded_70 : decode cX4_excluded 70 = .ok (.iconst 1, 1) := dk_4 (dk_at dksX4_excluded_3 3 rfl rfl)
theorem dX4_excluded_71 : decode cX4_excluded 71 = .ok (.goto 4, 3) := dk_167 0 4 (dk_at dksX4_excluded_3 4 rfl rfl)
theorem dX4_excluded_74 : decode cX4_excluded 74 = .ok (.iconst 0, 1) := dk_3 (dk_at dksX4_excluded_3 7 rfl rfl)
theorem dX4_excluded_75 : decode cX4_excluded 75 = .ok (.iadd, 1) := dk_96 (dk_at dksX4_excluded_3 8 rfl rfl)
theorem dX4_excluded_76 : decode cX4_excluded 76 = .ok (.istore_n 2, 1) := dk_61 (dk_at dksX4_excluded_3 9 rfl rfl)
theorem dX4_excluded_77 : decode cX4_excluded 77 = .ok (.iinc 3 1, 3) := dk_132 3 1 (dk_at dksX4_excluded_3 10 rfl rfl)
theorem dX4_excluded_80 : decode cX4_excluded 80 = .ok (.goto (-46), 3) := dk_167 255 210 (dk_at dksX4_excluded_3 13 rfl rfl)
theorem dX4_excluded_83 : decode cX4_excluded 83 = .ok (.iload_n 2, 1) := dk_28 (dk_at dksX4_excluded_3 16 rfl rfl)
theorem dX4_excluded_84 : decode cX4_excluded 84 = .ok (.ireturn, 1) := dk_172 (dk_at dksX4_excluded_3 17 rfl rfl)
abbrev cX4_undo : ByteArray := prog_17_method_89_code
def yX4_undo : MethodName := ⟨RX4, "undo", "()I"⟩
def dkwX4_undo_3 : List UInt8 := [180, 0, 125, 172]
abbrev dktX4_undo_3 : List UInt8 := dkwX4_undo_3 ++ []
def dkwX4_undo_2 : List UInt8 := [17, 7, 172, 42, 180, 0, 125, 104, 27, 96, 46, 79, 132, 1, 1, 167, 255, 225, 42, 182, 1, 32, 42]
abbrev dktX4_undo_2 : List UInt8 := dkwX4_undo_2 ++ dktX4_undo_3
def dkwX4_undo_1 : List UInt8 := [100, 181, 0, 125, 3, 60, 27, 17, 7, 172, 162, 0, 30, 42, 180, 0, 9, 27, 42, 180, 0, 19]
abbrev dktX4_undo_1 : List UInt8 := dkwX4_undo_1 ++ dktX4_undo_2
def dkwX4_undo_0 : List UInt8 := [42, 3, 181, 0, 55, 42, 180, 0, 125, 154, 0, 9, 42, 4, 182, 0, 122, 172, 42, 89, 180, 0, 125, 4]
abbrev dktX4_undo_0 : List UInt8 := dkwX4_undo_0 ++ dktX4_undo_1
theorem dksX4_undo_0 : cX4_undo.data.toList.drop 0 = dktX4_undo_0 := by decide +kernel
theorem dksX4_undo_1 : cX4_undo.data.toList.drop 24 = dktX4_undo_1 := dk_seg dksX4_undo_0 24 rfl rfl
theorem dksX4_undo_2 : cX4_undo.data.toList.drop 46 = dktX4_undo_2 := dk_seg dksX4_undo_1 22 rfl rfl
theorem dksX4_undo_3 : cX4_undo.data.toList.drop 69 = dktX4_undo_3 := dk_seg dksX4_undo_2 23 rfl rfl
theorem dX4_undo_0 : decode cX4_undo 0 = .ok (.aload_n 0, 1) := dk_42 (dk_at dksX4_undo_0 0 rfl rfl)
theorem dX4_undo_1 : decode cX4_undo 1 = .ok (.iconst 0, 1) := dk_3 (dk_at dksX4_undo_0 1 rfl rfl)
theorem dX4_undo_2 : decode cX4_undo 2 = .ok (.putfield 55, 3) := dk_181 0 55 (dk_at dksX4_undo_0 2 rfl rfl)
theorem dX4_undo_5 : decode cX4_undo 5 = .ok (.aload_n 0, 1) := dk_42 (dk_at dksX4_undo_0 5 rfl rfl)
theorem dX4_undo_6 : decode cX4_undo 6 = .ok (.getfield 125, 3) := dk_180 0 125 (dk_at dksX4_undo_0 6 rfl rfl)
theorem dX4_undo_9 : decode cX4_undo 9 = .ok (.ifCond .ne 9, 3) := dk_154 0 9 (dk_at dksX4_undo_0 9 rfl rfl)
theorem dX4_undo_12 : decode cX4_undo 12 = .ok (.aload_n 0, 1) := dk_42 (dk_at dksX4_undo_0 12 rfl rfl)
theorem dX4_undo_13 : decode cX4_undo 13 = .ok (.iconst 1, 1) := dk_4 (dk_at dksX4_undo_0 13 rfl rfl)
theorem dX4_undo_14 : decode cX4_undo 14 = .ok (.invokevirtual 122, 3) := dk_182 0 122 (dk_at dksX4_undo_0 14 rfl rfl)
theorem dX4_undo_17 : decode cX4_undo 17 = .ok (.ireturn, 1) := dk_172 (dk_at dksX4_undo_0 17 rfl rfl)
theorem dX4_undo_18 : decode cX4_undo 18 = .ok (.aload_n 0, 1) := dk_42 (dk_at dksX4_undo_0 18 rfl rfl)
theorem dX4_undo_19 : decode cX4_undo 19 = .ok (.dup, 1) := dk_89 (dk_at dksX4_undo_0 19 rfl rfl)
theorem dX4_undo_20 : decode cX4_undo 20 = .ok (.getfield 125, 3) := dk_180 0 125 (dk_at dksX4_undo_0 20 rfl rfl)
theorem dX4_undo_23 : decode cX4_undo 23 = .ok (.iconst 1, 1) := dk_4 (dk_at dksX4_undo_0 23 rfl rfl)
theorem dX4_undo_24 : decode cX4_undo 24 = .ok (.isub, 1) := dk_100 (dk_at dksX4_undo_1 0 rfl rfl)
theorem dX4_undo_25 : decode cX4_undo 25 = .ok (.putfield 125, 3) := dk_181 0 125 (dk_at dksX4_undo_1 1 rfl rfl)
theorem dX4_undo_28 : decode cX4_undo 28 = .ok (.iconst 0, 1) := dk_3 (dk_at dksX4_undo_1 4 rfl rfl)
theorem dX4_undo_29 : decode cX4_undo 29 = .ok (.istore_n 1, 1) := dk_60 (dk_at dksX4_undo_1 5 rfl rfl)
theorem dX4_undo_30 : decode cX4_undo 30 = .ok (.iload_n 1, 1) := dk_27 (dk_at dksX4_undo_1 6 rfl rfl)
theorem dX4_undo_31 : decode cX4_undo 31 = .ok (.sipush 1964, 3) := dk_17 7 172 (dk_at dksX4_undo_1 7 rfl rfl)
theorem dX4_undo_34 : decode cX4_undo 34 = .ok (.if_icmp .ge 30, 3) := dk_162 0 30 (dk_at dksX4_undo_1 10 rfl rfl)
theorem dX4_undo_37 : decode cX4_undo 37 = .ok (.aload_n 0, 1) := dk_42 (dk_at dksX4_undo_1 13 rfl rfl)
theorem dX4_undo_38 : decode cX4_undo 38 = .ok (.getfield 9, 3) := dk_180 0 9 (dk_at dksX4_undo_1 14 rfl rfl)
theorem dX4_undo_41 : decode cX4_undo 41 = .ok (.iload_n 1, 1) := dk_27 (dk_at dksX4_undo_1 17 rfl rfl)
theorem dX4_undo_42 : decode cX4_undo 42 = .ok (.aload_n 0, 1) := dk_42 (dk_at dksX4_undo_1 18 rfl rfl)
theorem dX4_undo_43 : decode cX4_undo 43 = .ok (.getfield 19, 3) := dk_180 0 19 (dk_at dksX4_undo_1 19 rfl rfl)
theorem dX4_undo_46 : decode cX4_undo 46 = .ok (.sipush 1964, 3) := dk_17 7 172 (dk_at dksX4_undo_2 0 rfl rfl)
theorem dX4_undo_49 : decode cX4_undo 49 = .ok (.aload_n 0, 1) := dk_42 (dk_at dksX4_undo_2 3 rfl rfl)
theorem dX4_undo_50 : decode cX4_undo 50 = .ok (.getfield 125, 3) := dk_180 0 125 (dk_at dksX4_undo_2 4 rfl rfl)
theorem dX4_undo_53 : decode cX4_undo 53 = .ok (.imul, 1) := dk_104 (dk_at dksX4_undo_2 7 rfl rfl)
theorem dX4_undo_54 : decode cX4_undo 54 = .ok (.iload_n 1, 1) := dk_27 (dk_at dksX4_undo_2 8 rfl rfl)
theorem dX4_undo_55 : decode cX4_undo 55 = .ok (.iadd, 1) := dk_96 (dk_at dksX4_undo_2 9 rfl rfl)
theorem dX4_undo_56 : decode cX4_undo 56 = .ok (.iaload, 1) := dk_46 (dk_at dksX4_undo_2 10 rfl rfl)
theorem dX4_undo_57 : decode cX4_undo 57 = .ok (.iastore, 1) := dk_79 (dk_at dksX4_undo_2 11 rfl rfl)
theorem dX4_undo_58 : decode cX4_undo 58 = .ok (.iinc 1 1, 3) := dk_132 1 1 (dk_at dksX4_undo_2 12 rfl rfl)
theorem dX4_undo_61 : decode cX4_undo 61 = .ok (.goto (-31), 3) := dk_167 255 225 (dk_at dksX4_undo_2 15 rfl rfl)
theorem dX4_undo_64 : decode cX4_undo 64 = .ok (.aload_n 0, 1) := dk_42 (dk_at dksX4_undo_2 18 rfl rfl)
theorem dX4_undo_65 : decode cX4_undo 65 = .ok (.invokevirtual 288, 3) := dk_182 1 32 (dk_at dksX4_undo_2 19 rfl rfl)
theorem dX4_undo_68 : decode cX4_undo 68 = .ok (.aload_n 0, 1) := dk_42 (dk_at dksX4_undo_2 22 rfl rfl)
theorem dX4_undo_69 : decode cX4_undo 69 = .ok (.getfield 125, 3) := dk_180 0 125 (dk_at dksX4_undo_3 0 rfl rfl)
theorem dX4_undo_72 : decode cX4_undo 72 = .ok (.ireturn, 1) := dk_172 (dk_at dksX4_undo_3 3 rfl rfl)
abbrev cX4_layAll : ByteArray := prog_17_method_9_code
def yX4_layAll : MethodName := ⟨RX4, "layAll", "()V"⟩
def dkwX4_layAll_0 : List UInt8 := [3, 60, 27, 42, 180, 0, 9, 3, 46, 162, 0, 14, 42, 27, 182, 0, 71, 132, 1, 1, 167, 255, 238, 177]
abbrev dktX4_layAll_0 : List UInt8 := dkwX4_layAll_0 ++ []
theorem dksX4_layAll_0 : cX4_layAll.data.toList.drop 0 = dktX4_layAll_0 := by decide +kernel
theorem dX4_layAll_0 : decode cX4_layAll 0 = .ok (.iconst 0, 1) := dk_3 (dk_at dksX4_layAll_0 0 rfl rfl)
theorem dX4_layAll_1 : decode cX4_layAll 1 = .ok (.istore_n 1, 1) := dk_60 (dk_at dksX4_layAll_0 1 rfl rfl)
theorem dX4_layAll_2 : decode cX4_layAll 2 = .ok (.iload_n 1, 1) := dk_27 (dk_at dksX4_layAll_0 2 rfl rfl)
theorem dX4_layAll_3 : decode cX4_layAll 3 = .ok (.aload_n 0, 1) := dk_42 (dk_at dksX4_layAll_0 3 rfl rfl)
theorem dX4_layAll_4 : decode cX4_layAll 4 = .ok (.getfield 9, 3) := dk_180 0 9 (dk_at dksX4_layAll_0 4 rfl rfl)
theorem dX4_layAll_7 : decode cX4_layAll 7 = .ok (.iconst 0, 1) := dk_3 (dk_at dksX4_layAll_0 7 rfl rfl)
theorem dX4_layAll_8 : decode cX4_layAll 8 = .ok (.iaload, 1) := dk_46 (dk_at dksX4_layAll_0 8 rfl rfl)
theorem dX4_layAll_9 : decode cX4_layAll 9 = .ok (.if_icmp .ge 14, 3) := dk_162 0 14 (dk_at dksX4_layAll_0 9 rfl rfl)
theorem dX4_layAll_12 : decode cX4_layAll 12 = .ok (.aload_n 0, 1) := dk_42 (dk_at dksX4_layAll_0 12 rfl rfl)
theorem dX4_layAll_13 : decode cX4_layAll 13 = .ok (.iload_n 1, 1) := dk_27 (dk_at dksX4_layAll_0 13 rfl rfl)
theorem dX4_layAll_14 : decode cX4_layAll 14 = .ok (.invokevirtual 71, 3) := dk_182 0 71 (dk_at dksX4_layAll_0 14 rfl rfl)
theorem dX4_layAll_17 : decode cX4_layAll 17 = .ok (.iinc 1 1, 3) := dk_132 1 1 (dk_at dksX4_layAll_0 17 rfl rfl)
theorem dX4_layAll_20 : decode cX4_layAll 20 = .ok (.goto (-18), 3) := dk_167 255 238 (dk_at dksX4_layAll_0 20 rfl rfl)
theorem dX4_layAll_23 : decode cX4_layAll 23 = .ok (.return_, 1) := dk_177 (dk_at dksX4_layAll_0 23 rfl rfl)
abbrev cX4_save : ByteArray := prog_17_method_90_code
def yX4_save : MethodName := ⟨RX4, "save", "()I"⟩
def dkwX4_save_1 : List UInt8 := [46, 79, 132, 1, 1, 167, 255, 234, 42, 4, 181, 1, 35, 42, 180, 0, 9, 3, 46, 172]
abbrev dktX4_save_1 : List UInt8 := dkwX4_save_1 ++ []
def dkwX4_save_0 : List UInt8 := [42, 3, 181, 0, 55, 3, 60, 27, 17, 7, 172, 162, 0, 21, 42, 180, 0, 13, 27, 42, 180, 0, 9, 27]
abbrev dktX4_save_0 : List UInt8 := dkwX4_save_0 ++ dktX4_save_1
theorem dksX4_save_0 : cX4_save.data.toList.drop 0 = dktX4_save_0 := by decide +kernel
theorem dksX4_save_1 : cX4_save.data.toList.drop 24 = dktX4_save_1 := dk_seg dksX4_save_0 24 rfl rfl
theorem dX4_save_0 : decode cX4_save 0 = .ok (.aload_n 0, 1) := dk_42 (dk_at dksX4_save_0 0 rfl rfl)
theorem dX4_save_1 : decode cX4_save 1 = .ok (.iconst 0, 1) := dk_3 (dk_at dksX4_save_0 1 rfl rfl)
theorem dX4_save_2 : decode cX4_save 2 = .ok (.putfield 55, 3) := dk_181 0 55 (dk_at dksX4_save_0 2 rfl rfl)
theorem dX4_save_5 : decode cX4_save 5 = .ok (.iconst 0, 1) := dk_3 (dk_at dksX4_save_0 5 rfl rfl)
theorem dX4_save_6 : decode cX4_save 6 = .ok (.istore_n 1, 1) := dk_60 (dk_at dksX4_save_0 6 rfl rfl)
theorem dX4_save_7 : decode cX4_save 7 = .ok (.iload_n 1, 1) := dk_27 (dk_at dksX4_save_0 7 rfl rfl)
theorem dX4_save_8 : decode cX4_save 8 = .ok (.sipush 1964, 3) := dk_17 7 172 (dk_at dksX4_save_0 8 rfl rfl)
theorem dX4_save_11 : decode cX4_save 11 = .ok (.if_icmp .ge 21, 3) := dk_162 0 21 (dk_at dksX4_save_0 11 rfl rfl)
theorem dX4_save_14 : decode cX4_save 14 = .ok (.aload_n 0, 1) := dk_42 (dk_at dksX4_save_0 14 rfl rfl)
theorem dX4_save_15 : decode cX4_save 15 = .ok (.getfield 13, 3) := dk_180 0 13 (dk_at dksX4_save_0 15 rfl rfl)
theorem dX4_save_18 : decode cX4_save 18 = .ok (.iload_n 1, 1) := dk_27 (dk_at dksX4_save_0 18 rfl rfl)
theorem dX4_save_19 : decode cX4_save 19 = .ok (.aload_n 0, 1) := dk_42 (dk_at dksX4_save_0 19 rfl rfl)
theorem dX4_save_20 : decode cX4_save 20 = .ok (.getfield 9, 3) := dk_180 0 9 (dk_at dksX4_save_0 20 rfl rfl)
theorem dX4_save_23 : decode cX4_save 23 = .ok (.iload_n 1, 1) := dk_27 (dk_at dksX4_save_0 23 rfl rfl)
theorem dX4_save_24 : decode cX4_save 24 = .ok (.iaload, 1) := dk_46 (dk_at dksX4_save_1 0 rfl rfl)
theorem dX4_save_25 : decode cX4_save 25 = .ok (.iastore, 1) := dk_79 (dk_at dksX4_save_1 1 rfl rfl)
theorem dX4_save_26 : decode cX4_save 26 = .ok (.iinc 1 1, 3) := dk_132 1 1 (dk_at dksX4_save_1 2 rfl rfl)
theorem dX4_save_29 : decode cX4_save 29 = .ok (.goto (-22), 3) := dk_167 255 234 (dk_at dksX4_save_1 5 rfl rfl)
theorem dX4_save_32 : decode cX4_save 32 = .ok (.aload_n 0, 1) := dk_42 (dk_at dksX4_save_1 8 rfl rfl)
theorem dX4_save_33 : decode cX4_save 33 = .ok (.iconst 1, 1) := dk_4 (dk_at dksX4_save_1 9 rfl rfl)
theorem dX4_save_34 : decode cX4_save 34 = .ok (.putfield 291, 3) := dk_181 1 35 (dk_at dksX4_save_1 10 rfl rfl)
theorem dX4_save_37 : decode cX4_save 37 = .ok (.aload_n 0, 1) := dk_42 (dk_at dksX4_save_1 13 rfl rfl)
theorem dX4_save_38 : decode cX4_save 38 = .ok (.getfield 9, 3) := dk_180 0 9 (dk_at dksX4_save_1 14 rfl rfl)
theorem dX4_save_41 : decode cX4_save 41 = .ok (.iconst 0, 1) := dk_3 (dk_at dksX4_save_1 17 rfl rfl)
theorem dX4_save_42 : decode cX4_save 42 = .ok (.iaload, 1) := dk_46 (dk_at dksX4_save_1 18 rfl rfl)
theorem dX4_save_43 : decode cX4_save 43 = .ok (.ireturn, 1) := dk_172 (dk_at dksX4_save_1 19 rfl rfl)
abbrev cX4_restore : ByteArray := prog_17_method_91_code
def yX4_restore : MethodName := ⟨RX4, "restore", "()I"⟩
def dkwX4_restore_2 : List UInt8 := [181, 0, 125, 42, 182, 1, 32, 42, 180, 0, 9, 3, 46, 172]
abbrev dktX4_restore_2 : List UInt8 := dkwX4_restore_2 ++ []
def dkwX4_restore_1 : List UInt8 := [162, 0, 21, 42, 180, 0, 9, 27, 42, 180, 0, 13, 27, 46, 79, 132, 1, 1, 167, 255, 234, 42, 3]
abbrev dktX4_restore_1 : List UInt8 := dkwX4_restore_1 ++ dktX4_restore_2
def dkwX4_restore_0 : List UInt8 := [42, 3, 181, 0, 55, 42, 180, 1, 35, 154, 0, 9, 42, 4, 182, 0, 122, 172, 3, 60, 27, 17, 7, 172]
abbrev dktX4_restore_0 : List UInt8 := dkwX4_restore_0 ++ dktX4_restore_1
theorem dksX4_restore_0 : cX4_restore.data.toList.drop 0 = dktX4_restore_0 := by decide +kernel
theorem dksX4_restore_1 : cX4_restore.data.toList.drop 24 = dktX4_restore_1 := dk_seg dksX4_restore_0 24 rfl rfl
theorem dksX4_restore_2 : cX4_restore.data.toList.drop 47 = dktX4_restore_2 := dk_seg dksX4_restore_1 23 rfl rfl
theorem dX4_restore_0 : decode cX4_restore 0 = .ok (.aload_n 0, 1) := dk_42 (dk_at dksX4_restore_0 0 rfl rfl)
theorem dX4_restore_1 : decode cX4_restore 1 = .ok (.iconst 0, 1) := dk_3 (dk_at dksX4_restore_0 1 rfl rfl)
theorem dX4_restore_2 : decode cX4_restore 2 = .ok (.putfield 55, 3) := dk_181 0 55 (dk_at dksX4_restore_0 2 rfl rfl)
theorem dX4_restore_5 : decode cX4_restore 5 = .ok (.aload_n 0, 1) := dk_42 (dk_at dksX4_restore_0 5 rfl rfl)
theorem dX4_restore_6 : decode cX4_restore 6 = .ok (.getfield 291, 3) := dk_180 1 35 (dk_at dksX4_restore_0 6 rfl rfl)
theorem dX4_restore_9 : decode cX4_restore 9 = .ok (.ifCond .ne 9, 3) := dk_154 0 9 (dk_at dksX4_restore_0 9 rfl rfl)
theorem dX4_restore_12 : decode cX4_restore 12 = .ok (.aload_n 0, 1) := dk_42 (dk_at dksX4_restore_0 12 rfl rfl)
theorem dX4_restore_13 : decode cX4_restore 13 = .ok (.iconst 1, 1) := dk_4 (dk_at dksX4_restore_0 13 rfl rfl)
theorem dX4_restore_14 : decode cX4_restore 14 = .ok (.invokevirtual 122, 3) := dk_182 0 122 (dk_at dksX4_restore_0 14 rfl rfl)
theorem dX4_restore_17 : decode cX4_restore 17 = .ok (.ireturn, 1) := dk_172 (dk_at dksX4_restore_0 17 rfl rfl)
theorem dX4_restore_18 : decode cX4_restore 18 = .ok (.iconst 0, 1) := dk_3 (dk_at dksX4_restore_0 18 rfl rfl)
theorem dX4_restore_19 : decode cX4_restore 19 = .ok (.istore_n 1, 1) := dk_60 (dk_at dksX4_restore_0 19 rfl rfl)
theorem dX4_restore_20 : decode cX4_restore 20 = .ok (.iload_n 1, 1) := dk_27 (dk_at dksX4_restore_0 20 rfl rfl)
theorem dX4_restore_21 : decode cX4_restore 21 = .ok (.sipush 1964, 3) := dk_17 7 172 (dk_at dksX4_restore_0 21 rfl rfl)
theorem dX4_restore_24 : decode cX4_restore 24 = .ok (.if_icmp .ge 21, 3) := dk_162 0 21 (dk_at dksX4_restore_1 0 rfl rfl)
theorem dX4_restore_27 : decode cX4_restore 27 = .ok (.aload_n 0, 1) := dk_42 (dk_at dksX4_restore_1 3 rfl rfl)
theorem dX4_restore_28 : decode cX4_restore 28 = .ok (.getfield 9, 3) := dk_180 0 9 (dk_at dksX4_restore_1 4 rfl rfl)
theorem dX4_restore_31 : decode cX4_restore 31 = .ok (.iload_n 1, 1) := dk_27 (dk_at dksX4_restore_1 7 rfl rfl)
theorem dX4_restore_32 : decode cX4_restore 32 = .ok (.aload_n 0, 1) := dk_42 (dk_at dksX4_restore_1 8 rfl rfl)
theorem dX4_restore_33 : decode cX4_restore 33 = .ok (.getfield 13, 3) := dk_180 0 13 (dk_at dksX4_restore_1 9 rfl rfl)
theorem dX4_restore_36 : decode cX4_restore 36 = .ok (.iload_n 1, 1) := dk_27 (dk_at dksX4_restore_1 12 rfl rfl)
theorem dX4_restore_37 : decode cX4_restore 37 = .ok (.iaload, 1) := dk_46 (dk_at dksX4_restore_1 13 rfl rfl)
theorem dX4_restore_38 : decode cX4_restore 38 = .ok (.iastore, 1) := dk_79 (dk_at dksX4_restore_1 14 rfl rfl)
theorem dX4_restore_39 : decode cX4_restore 39 = .ok (.iinc 1 1, 3) := dk_132 1 1 (dk_at dksX4_restore_1 15 rfl rfl)
theorem dX4_restore_42 : decode cX4_restore 42 = .ok (.goto (-22), 3) := dk_167 255 234 (dk_at dksX4_restore_1 18 rfl rfl)
theorem dX4_restore_45 : decode cX4_restore 45 = .ok (.aload_n 0, 1) := dk_42 (dk_at dksX4_restore_1 21 rfl rfl)
theorem dX4_restore_46 : decode cX4_restore 46 = .ok (.iconst 0, 1) := dk_3 (dk_at dksX4_restore_1 22 rfl rfl)
theorem dX4_restore_47 : decode cX4_restore 47 = .ok (.putfield 125, 3) := dk_181 0 125 (dk_at dksX4_restore_2 0 rfl rfl)
theorem dX4_restore_50 : decode cX4_restore 50 = .ok (.aload_n 0, 1) := dk_42 (dk_at dksX4_restore_2 3 rfl rfl)
theorem dX4_restore_51 : decode cX4_restore 51 = .ok (.invokevirtual 288, 3) := dk_182 1 32 (dk_at dksX4_restore_2 4 rfl rfl)
theorem dX4_restore_54 : decode cX4_restore 54 = .ok (.aload_n 0, 1) := dk_42 (dk_at dksX4_restore_2 7 rfl rfl)
theorem dX4_restore_55 : decode cX4_restore 55 = .ok (.getfield 9, 3) := dk_180 0 9 (dk_at dksX4_restore_2 8 rfl rfl)
theorem dX4_restore_58 : decode cX4_restore 58 = .ok (.iconst 0, 1) := dk_3 (dk_at dksX4_restore_2 11 rfl rfl)
theorem dX4_restore_59 : decode cX4_restore 59 = .ok (.iaload, 1) := dk_46 (dk_at dksX4_restore_2 12 rfl rfl)
theorem dX4_restore_60 : decode cX4_restore 60 = .ok (.ireturn, 1) := dk_172 (dk_at dksX4_restore_2 13 rfl rfl)
theorem q103 : (Jvm.Cond.initialized "LogCompactorModel") ∈ lw_all := lw_g (lw_at lw_m1 7 rfl) rfl
theorem q424 : (Jvm.Cond.selects "LogCompactorModel" ({ cls := "java/lang/Object", name := "getClass", desc := "()Ljava/lang/Class;" } : Jvm.MethodName) ({ cls := "java/lang/Object", name := "getClass", desc := "()Ljava/lang/Class;" } : Jvm.MethodName)) ∈ lw_all := lw_g (lw_at lw_m2 88 rfl) rfl
theorem q1226 : (Jvm.Cond.selects "LogCompactorModel" ({ cls := "java/lang/Object", name := "equals", desc := "(Ljava/lang/Object;)Z" } : Jvm.MethodName) ({ cls := "java/lang/Object", name := "equals", desc := "(Ljava/lang/Object;)Z" } : Jvm.MethodName)) ∈ lw_all := lw_g (lw_at lw_m5 170 rfl) rfl
theorem q1859 : (Jvm.Cond.instantiable "LogCompactorModel" (27 : Nat)) ∈ lw_all := lw_g (lw_at lw_m8 83 rfl) rfl
theorem q1861 : (Jvm.Cond.instanceMethod ({ cls := "LogCompactorModel", name := "<init>", desc := "()V" } : Jvm.MethodName)) ∈ lw_all := lw_g (lw_at lw_m8 85 rfl) rfl
theorem q1862 : (Jvm.Cond.code ({ cls := "LogCompactorModel", name := "<init>", desc := "()V" } : Jvm.MethodName) prog_17_method_1_code (1 : Nat) (Option.none : Option Jvm.ClassFile.FieldType)) ∈ lw_all := lw_g (lw_at lw_m8 86 rfl) rfl
theorem q1863 : (Jvm.Cond.methodLink "LogCompactorModel" (1 : Nat) ({ cls := "java/lang/Object", name := "<init>", desc := "()V" } : Jvm.MethodName)) ∈ lw_all := lw_g (lw_at lw_m8 87 rfl) rfl
theorem q1864 : (Jvm.Cond.fieldLink "LogCompactorModel" (9 : Nat) "LogCompactorModel" "m" "[I") ∈ lw_all := lw_g (lw_at lw_m8 88 rfl) rfl
theorem q1865 : (Jvm.Cond.fieldLink "LogCompactorModel" (13 : Nat) "LogCompactorModel" "saved" "[I") ∈ lw_all := lw_g (lw_at lw_m8 89 rfl) rfl
theorem q1866 : (Jvm.Cond.fieldLink "LogCompactorModel" (16 : Nat) "LogCompactorModel" "aside" "[I") ∈ lw_all := lw_g (lw_at lw_m8 90 rfl) rfl
theorem q1867 : (Jvm.Cond.fieldLink "LogCompactorModel" (291 : Nat) "LogCompactorModel" "isSaved" "Z") ∈ lw_all := lw_g (lw_at lw_m8 91 rfl) rfl
theorem q1868 : (Jvm.Cond.fieldLink "LogCompactorModel" (19 : Nat) "LogCompactorModel" "past" "[I") ∈ lw_all := lw_g (lw_at lw_m8 92 rfl) rfl
theorem q1869 : (Jvm.Cond.fieldLink "LogCompactorModel" (125 : Nat) "LogCompactorModel" "changes" "I") ∈ lw_all := lw_g (lw_at lw_m8 93 rfl) rfl
theorem q1870 : (Jvm.Cond.fieldLink "LogCompactorModel" (55 : Nat) "LogCompactorModel" "thrown" "I") ∈ lw_all := lw_g (lw_at lw_m8 94 rfl) rfl
theorem q1871 : (Jvm.Cond.fieldLink "LogCompactorModel" (22 : Nat) "LogCompactorModel" "tokens" "[I") ∈ lw_all := lw_g (lw_at lw_m8 95 rfl) rfl
theorem q1872 : (Jvm.Cond.fieldLink "LogCompactorModel" (25 : Nat) "LogCompactorModel" "from" "[I") ∈ lw_all := lw_g (lw_at lw_m8 96 rfl) rfl
theorem q1873 : (Jvm.Cond.fieldLink "LogCompactorModel" (28 : Nat) "LogCompactorModel" "to" "[I") ∈ lw_all := lw_g (lw_at lw_m8 97 rfl) rfl
theorem q1874 : (Jvm.Cond.fieldLink "LogCompactorModel" (115 : Nat) "LogCompactorModel" "isReport" "Z") ∈ lw_all := lw_g (lw_at lw_m8 98 rfl) rfl
theorem q1875 : (Jvm.Cond.fieldLink "LogCompactorModel" (31 : Nat) "LogCompactorModel" "codes" "[I") ∈ lw_all := lw_g (lw_at lw_m8 99 rfl) rfl
theorem q1876 : (Jvm.Cond.fieldLink "LogCompactorModel" (34 : Nat) "LogCompactorModel" "details" "[I") ∈ lw_all := lw_g (lw_at lw_m8 100 rfl) rfl
theorem q1877 : (Jvm.Cond.fieldLink "LogCompactorModel" (119 : Nat) "LogCompactorModel" "fed" "I") ∈ lw_all := lw_g (lw_at lw_m8 101 rfl) rfl
theorem q1878 : (Jvm.Cond.fieldLink "LogCompactorModel" (37 : Nat) "LogCompactorModel" "buffer" "[I") ∈ lw_all := lw_g (lw_at lw_m8 102 rfl) rfl
theorem q1879 : (Jvm.Cond.fieldLink "LogCompactorModel" (170 : Nat) "LogCompactorModel" "patterned" "I") ∈ lw_all := lw_g (lw_at lw_m8 103 rfl) rfl
theorem q1880 : (Jvm.Cond.fieldLink "LogCompactorModel" (40 : Nat) "LogCompactorModel" "pattern" "[I") ∈ lw_all := lw_g (lw_at lw_m8 104 rfl) rfl
theorem q1881 : (Jvm.Cond.fieldLink "LogCompactorModel" (182 : Nat) "LogCompactorModel" "rows" "I") ∈ lw_all := lw_g (lw_at lw_m8 105 rfl) rfl
theorem q1882 : (Jvm.Cond.fieldLink "LogCompactorModel" (43 : Nat) "LogCompactorModel" "rowLine" "[I") ∈ lw_all := lw_g (lw_at lw_m8 106 rfl) rfl
theorem q1883 : (Jvm.Cond.fieldLink "LogCompactorModel" (282 : Nat) "LogCompactorModel" "isQuery" "Z") ∈ lw_all := lw_g (lw_at lw_m8 107 rfl) rfl
theorem q1884 : (Jvm.Cond.fieldLink "LogCompactorModel" (270 : Nat) "LogCompactorModel" "conditions" "I") ∈ lw_all := lw_g (lw_at lw_m8 108 rfl) rfl
theorem q1885 : (Jvm.Cond.fieldLink "LogCompactorModel" (46 : Nat) "LogCompactorModel" "condition" "[I") ∈ lw_all := lw_g (lw_at lw_m8 109 rfl) rfl
theorem q1886 : (Jvm.Cond.fieldLink "LogCompactorModel" (49 : Nat) "LogCompactorModel" "query" "[I") ∈ lw_all := lw_g (lw_at lw_m8 110 rfl) rfl
theorem q1887 : (Jvm.Cond.fieldLink "LogCompactorModel" (255 : Nat) "LogCompactorModel" "readMany" "I") ∈ lw_all := lw_g (lw_at lw_m8 111 rfl) rfl
theorem q1888 : (Jvm.Cond.fieldLink "LogCompactorModel" (52 : Nat) "LogCompactorModel" "read" "[I") ∈ lw_all := lw_g (lw_at lw_m8 112 rfl) rfl
theorem q1889 : (Jvm.Cond.fieldLink "LogCompactorModel" (243 : Nat) "LogCompactorModel" "at" "I") ∈ lw_all := lw_g (lw_at lw_m8 113 rfl) rfl
theorem q1890 : (Jvm.Cond.fieldLink "LogCompactorModel" (249 : Nat) "LogCompactorModel" "isBad" "Z") ∈ lw_all := lw_g (lw_at lw_m8 114 rfl) rfl
theorem q1891 : (Jvm.Cond.laysFinal "LogCompactorModel" "LogCompactorModel" "m" "[I") ∈ lw_all := lw_g (lw_at lw_m8 115 rfl) rfl
theorem q1892 : (Jvm.Cond.soleField "LogCompactorModel" "m") ∈ lw_all := lw_g (lw_at lw_m8 116 rfl) rfl
theorem q1893 : (Jvm.Cond.laysFinal "LogCompactorModel" "LogCompactorModel" "saved" "[I") ∈ lw_all := lw_g (lw_at lw_m8 117 rfl) rfl
theorem q1894 : (Jvm.Cond.soleField "LogCompactorModel" "saved") ∈ lw_all := lw_g (lw_at lw_m8 118 rfl) rfl
theorem q1895 : (Jvm.Cond.laysFinal "LogCompactorModel" "LogCompactorModel" "aside" "[I") ∈ lw_all := lw_g (lw_at lw_m8 119 rfl) rfl
theorem q1896 : (Jvm.Cond.soleField "LogCompactorModel" "aside") ∈ lw_all := lw_g (lw_at lw_m8 120 rfl) rfl
theorem q1897 : (Jvm.Cond.lays "LogCompactorModel" "LogCompactorModel" "isSaved" "Z") ∈ lw_all := lw_g (lw_at lw_m8 121 rfl) rfl
theorem q1898 : (Jvm.Cond.soleField "LogCompactorModel" "isSaved") ∈ lw_all := lw_g (lw_at lw_m8 122 rfl) rfl
theorem q1899 : (Jvm.Cond.laysFinal "LogCompactorModel" "LogCompactorModel" "past" "[I") ∈ lw_all := lw_g (lw_at lw_m8 123 rfl) rfl
theorem q1900 : (Jvm.Cond.soleField "LogCompactorModel" "past") ∈ lw_all := lw_g (lw_at lw_m8 124 rfl) rfl
theorem q1901 : (Jvm.Cond.lays "LogCompactorModel" "LogCompactorModel" "changes" "I") ∈ lw_all := lw_g (lw_at lw_m8 125 rfl) rfl
theorem q1902 : (Jvm.Cond.soleField "LogCompactorModel" "changes") ∈ lw_all := lw_g (lw_at lw_m8 126 rfl) rfl
theorem q1903 : (Jvm.Cond.lays "LogCompactorModel" "LogCompactorModel" "thrown" "I") ∈ lw_all := lw_g (lw_at lw_m8 127 rfl) rfl
theorem q1904 : (Jvm.Cond.soleField "LogCompactorModel" "thrown") ∈ lw_all := lw_g (lw_at lw_m8 128 rfl) rfl
theorem q1905 : (Jvm.Cond.laysFinal "LogCompactorModel" "LogCompactorModel" "tokens" "[I") ∈ lw_all := lw_g (lw_at lw_m8 129 rfl) rfl
theorem q1906 : (Jvm.Cond.soleField "LogCompactorModel" "tokens") ∈ lw_all := lw_g (lw_at lw_m8 130 rfl) rfl
theorem q1907 : (Jvm.Cond.laysFinal "LogCompactorModel" "LogCompactorModel" "from" "[I") ∈ lw_all := lw_g (lw_at lw_m8 131 rfl) rfl
theorem q1908 : (Jvm.Cond.soleField "LogCompactorModel" "from") ∈ lw_all := lw_g (lw_at lw_m8 132 rfl) rfl
theorem q1909 : (Jvm.Cond.laysFinal "LogCompactorModel" "LogCompactorModel" "to" "[I") ∈ lw_all := lw_g (lw_at lw_m8 133 rfl) rfl
theorem q1910 : (Jvm.Cond.soleField "LogCompactorModel" "to") ∈ lw_all := lw_g (lw_at lw_m8 134 rfl) rfl
theorem q1911 : (Jvm.Cond.lays "LogCompactorModel" "LogCompactorModel" "isReport" "Z") ∈ lw_all := lw_g (lw_at lw_m8 135 rfl) rfl
theorem q1912 : (Jvm.Cond.soleField "LogCompactorModel" "isReport") ∈ lw_all := lw_g (lw_at lw_m8 136 rfl) rfl
theorem q1913 : (Jvm.Cond.laysFinal "LogCompactorModel" "LogCompactorModel" "codes" "[I") ∈ lw_all := lw_g (lw_at lw_m8 137 rfl) rfl
theorem q1914 : (Jvm.Cond.soleField "LogCompactorModel" "codes") ∈ lw_all := lw_g (lw_at lw_m8 138 rfl) rfl
theorem q1915 : (Jvm.Cond.laysFinal "LogCompactorModel" "LogCompactorModel" "details" "[I") ∈ lw_all := lw_g (lw_at lw_m8 139 rfl) rfl
theorem q1916 : (Jvm.Cond.soleField "LogCompactorModel" "details") ∈ lw_all := lw_g (lw_at lw_m8 140 rfl) rfl
theorem q1917 : (Jvm.Cond.lays "LogCompactorModel" "LogCompactorModel" "fed" "I") ∈ lw_all := lw_g (lw_at lw_m8 141 rfl) rfl
theorem q1918 : (Jvm.Cond.soleField "LogCompactorModel" "fed") ∈ lw_all := lw_g (lw_at lw_m8 142 rfl) rfl
theorem q1919 : (Jvm.Cond.laysFinal "LogCompactorModel" "LogCompactorModel" "buffer" "[I") ∈ lw_all := lw_g (lw_at lw_m8 143 rfl) rfl
theorem q1920 : (Jvm.Cond.soleField "LogCompactorModel" "buffer") ∈ lw_all := lw_g (lw_at lw_m8 144 rfl) rfl
theorem q1921 : (Jvm.Cond.lays "LogCompactorModel" "LogCompactorModel" "patterned" "I") ∈ lw_all := lw_g (lw_at lw_m8 145 rfl) rfl
theorem q1922 : (Jvm.Cond.soleField "LogCompactorModel" "patterned") ∈ lw_all := lw_g (lw_at lw_m8 146 rfl) rfl
theorem q1923 : (Jvm.Cond.laysFinal "LogCompactorModel" "LogCompactorModel" "pattern" "[I") ∈ lw_all := lw_g (lw_at lw_m8 147 rfl) rfl
theorem q1924 : (Jvm.Cond.soleField "LogCompactorModel" "pattern") ∈ lw_all := lw_g (lw_at lw_m8 148 rfl) rfl
theorem q1925 : (Jvm.Cond.lays "LogCompactorModel" "LogCompactorModel" "rows" "I") ∈ lw_all := lw_g (lw_at lw_m8 149 rfl) rfl
theorem q1926 : (Jvm.Cond.soleField "LogCompactorModel" "rows") ∈ lw_all := lw_g (lw_at lw_m8 150 rfl) rfl
theorem q1927 : (Jvm.Cond.laysFinal "LogCompactorModel" "LogCompactorModel" "rowLine" "[I") ∈ lw_all := lw_g (lw_at lw_m8 151 rfl) rfl
theorem q1928 : (Jvm.Cond.soleField "LogCompactorModel" "rowLine") ∈ lw_all := lw_g (lw_at lw_m8 152 rfl) rfl
theorem q1929 : (Jvm.Cond.lays "LogCompactorModel" "LogCompactorModel" "isQuery" "Z") ∈ lw_all := lw_g (lw_at lw_m8 153 rfl) rfl
theorem q1930 : (Jvm.Cond.soleField "LogCompactorModel" "isQuery") ∈ lw_all := lw_g (lw_at lw_m8 154 rfl) rfl
theorem q1931 : (Jvm.Cond.lays "LogCompactorModel" "LogCompactorModel" "conditions" "I") ∈ lw_all := lw_g (lw_at lw_m8 155 rfl) rfl
theorem q1932 : (Jvm.Cond.soleField "LogCompactorModel" "conditions") ∈ lw_all := lw_g (lw_at lw_m8 156 rfl) rfl
theorem q1933 : (Jvm.Cond.laysFinal "LogCompactorModel" "LogCompactorModel" "condition" "[I") ∈ lw_all := lw_g (lw_at lw_m8 157 rfl) rfl
theorem q1934 : (Jvm.Cond.soleField "LogCompactorModel" "condition") ∈ lw_all := lw_g (lw_at lw_m8 158 rfl) rfl
theorem q1935 : (Jvm.Cond.laysFinal "LogCompactorModel" "LogCompactorModel" "query" "[I") ∈ lw_all := lw_g (lw_at lw_m8 159 rfl) rfl
theorem q1936 : (Jvm.Cond.soleField "LogCompactorModel" "query") ∈ lw_all := lw_g (lw_at lw_m8 160 rfl) rfl
theorem q1937 : (Jvm.Cond.lays "LogCompactorModel" "LogCompactorModel" "readMany" "I") ∈ lw_all := lw_g (lw_at lw_m8 161 rfl) rfl
theorem q1938 : (Jvm.Cond.soleField "LogCompactorModel" "readMany") ∈ lw_all := lw_g (lw_at lw_m8 162 rfl) rfl
theorem q1939 : (Jvm.Cond.laysFinal "LogCompactorModel" "LogCompactorModel" "read" "[I") ∈ lw_all := lw_g (lw_at lw_m8 163 rfl) rfl
theorem q1940 : (Jvm.Cond.soleField "LogCompactorModel" "read") ∈ lw_all := lw_g (lw_at lw_m8 164 rfl) rfl
theorem q1941 : (Jvm.Cond.lays "LogCompactorModel" "LogCompactorModel" "at" "I") ∈ lw_all := lw_g (lw_at lw_m8 165 rfl) rfl
theorem q1942 : (Jvm.Cond.soleField "LogCompactorModel" "at") ∈ lw_all := lw_g (lw_at lw_m8 166 rfl) rfl
theorem q1943 : (Jvm.Cond.lays "LogCompactorModel" "LogCompactorModel" "isBad" "Z") ∈ lw_all := lw_g (lw_at lw_m8 167 rfl) rfl
theorem q1944 : (Jvm.Cond.soleField "LogCompactorModel" "isBad") ∈ lw_all := lw_g (lw_at lw_m8 168 rfl) rfl
theorem q1945 : (Jvm.Cond.superclass "LogCompactorModel" "java/lang/Object") ∈ lw_all := lw_g (lw_at lw_m8 169 rfl) rfl
theorem q1948 : (Jvm.Cond.instanceMethod ({ cls := "LogCompactorModel", name := "thrown", desc := "()I" } : Jvm.MethodName)) ∈ lw_all := lw_g (lw_at lw_m8 172 rfl) rfl
theorem q1949 : (Jvm.Cond.selects "LogCompactorModel" ({ cls := "LogCompactorModel", name := "thrown", desc := "()I" } : Jvm.MethodName) ({ cls := "LogCompactorModel", name := "thrown", desc := "()I" } : Jvm.MethodName)) ∈ lw_all := lw_g (lw_at lw_m8 173 rfl) rfl
theorem q1950 : (Jvm.Cond.code ({ cls := "LogCompactorModel", name := "thrown", desc := "()I" } : Jvm.MethodName) prog_17_method_2_code (1 : Nat) (Option.some Jvm.ClassFile.FieldType.int)) ∈ lw_all := lw_g (lw_at lw_m8 174 rfl) rfl
theorem q1952 : (Jvm.Cond.instanceMethod ({ cls := "LogCompactorModel", name := "report", desc := "(II)I" } : Jvm.MethodName)) ∈ lw_all := lw_g (lw_at lw_m8 176 rfl) rfl
theorem q1953 : (Jvm.Cond.selects "LogCompactorModel" ({ cls := "LogCompactorModel", name := "report", desc := "(II)I" } : Jvm.MethodName) ({ cls := "LogCompactorModel", name := "report", desc := "(II)I" } : Jvm.MethodName)) ∈ lw_all := lw_g (lw_at lw_m8 177 rfl) rfl
theorem q1954 : (Jvm.Cond.code ({ cls := "LogCompactorModel", name := "report", desc := "(II)I" } : Jvm.MethodName) prog_17_method_30_code (3 : Nat) (Option.some Jvm.ClassFile.FieldType.int)) ∈ lw_all := lw_g (lw_at lw_m8 178 rfl) rfl
theorem q1955 : (Jvm.Cond.methodLink "LogCompactorModel" (59 : Nat) ({ cls := "LogCompactorModel", name := "in", desc := "(III)Z" } : Jvm.MethodName)) ∈ lw_all := lw_g (lw_at lw_m8 179 rfl) rfl
theorem q1956 : (Jvm.Cond.static ({ cls := "LogCompactorModel", name := "in", desc := "(III)Z" } : Jvm.MethodName)) ∈ lw_all := lw_g (lw_at lw_m8 180 rfl) rfl
theorem q1957 : (Jvm.Cond.code ({ cls := "LogCompactorModel", name := "in", desc := "(III)Z" } : Jvm.MethodName) prog_17_method_3_code (3 : Nat) (Option.some Jvm.ClassFile.FieldType.boolean)) ∈ lw_all := lw_g (lw_at lw_m8 181 rfl) rfl
theorem q1959 : (Jvm.Cond.instanceMethod ({ cls := "LogCompactorModel", name := "feed", desc := "(C)I" } : Jvm.MethodName)) ∈ lw_all := lw_g (lw_at lw_m8 183 rfl) rfl
theorem q1960 : (Jvm.Cond.selects "LogCompactorModel" ({ cls := "LogCompactorModel", name := "feed", desc := "(C)I" } : Jvm.MethodName) ({ cls := "LogCompactorModel", name := "feed", desc := "(C)I" } : Jvm.MethodName)) ∈ lw_all := lw_g (lw_at lw_m8 184 rfl) rfl
theorem q1961 : (Jvm.Cond.code ({ cls := "LogCompactorModel", name := "feed", desc := "(C)I" } : Jvm.MethodName) prog_17_method_31_code (2 : Nat) (Option.some Jvm.ClassFile.FieldType.int)) ∈ lw_all := lw_g (lw_at lw_m8 185 rfl) rfl
theorem q1962 : (Jvm.Cond.methodLink "LogCompactorModel" (122 : Nat) ({ cls := "LogCompactorModel", name := "refuse", desc := "(I)I" } : Jvm.MethodName)) ∈ lw_all := lw_g (lw_at lw_m8 186 rfl) rfl
theorem q1963 : (Jvm.Cond.privateMethod ({ cls := "LogCompactorModel", name := "refuse", desc := "(I)I" } : Jvm.MethodName)) ∈ lw_tbl := lw_at lw_m8 187 rfl
theorem q1964 : (Jvm.Cond.instanceMethod ({ cls := "LogCompactorModel", name := "refuse", desc := "(I)I" } : Jvm.MethodName)) ∈ lw_all := lw_g (lw_at lw_m8 188 rfl) rfl
theorem q1965 : (Jvm.Cond.code ({ cls := "LogCompactorModel", name := "refuse", desc := "(I)I" } : Jvm.MethodName) prog_17_method_4_code (2 : Nat) (Option.some Jvm.ClassFile.FieldType.int)) ∈ lw_all := lw_g (lw_at lw_m8 189 rfl) rfl
theorem q1967 : (Jvm.Cond.instanceMethod ({ cls := "LogCompactorModel", name := "add", desc := "()I" } : Jvm.MethodName)) ∈ lw_all := lw_g (lw_at lw_m8 191 rfl) rfl
theorem q1968 : (Jvm.Cond.selects "LogCompactorModel" ({ cls := "LogCompactorModel", name := "add", desc := "()I" } : Jvm.MethodName) ({ cls := "LogCompactorModel", name := "add", desc := "()I" } : Jvm.MethodName)) ∈ lw_all := lw_g (lw_at lw_m8 192 rfl) rfl
theorem q1969 : (Jvm.Cond.code ({ cls := "LogCompactorModel", name := "add", desc := "()I" } : Jvm.MethodName) prog_17_method_34_code (7 : Nat) (Option.some Jvm.ClassFile.FieldType.int)) ∈ lw_all := lw_g (lw_at lw_m8 193 rfl) rfl
theorem q1970 : (Jvm.Cond.methodLink "LogCompactorModel" (71 : Nat) ({ cls := "LogCompactorModel", name := "layTokens", desc := "(I)V" } : Jvm.MethodName)) ∈ lw_all := lw_g (lw_at lw_m8 194 rfl) rfl
theorem q1971 : (Jvm.Cond.privateMethod ({ cls := "LogCompactorModel", name := "layTokens", desc := "(I)V" } : Jvm.MethodName)) ∈ lw_tbl := lw_at lw_m8 195 rfl
theorem q1972 : (Jvm.Cond.instanceMethod ({ cls := "LogCompactorModel", name := "layTokens", desc := "(I)V" } : Jvm.MethodName)) ∈ lw_all := lw_g (lw_at lw_m8 196 rfl) rfl
theorem q1973 : (Jvm.Cond.code ({ cls := "LogCompactorModel", name := "layTokens", desc := "(I)V" } : Jvm.MethodName) prog_17_method_8_code (4 : Nat) (Option.none : Option Jvm.ClassFile.FieldType)) ∈ lw_all := lw_g (lw_at lw_m8 197 rfl) rfl
theorem q1974 : (Jvm.Cond.methodLink "LogCompactorModel" (63 : Nat) ({ cls := "LogCompactorModel", name := "lengthOf", desc := "(I)I" } : Jvm.MethodName)) ∈ lw_all := lw_g (lw_at lw_m8 198 rfl) rfl
theorem q1975 : (Jvm.Cond.privateMethod ({ cls := "LogCompactorModel", name := "lengthOf", desc := "(I)I" } : Jvm.MethodName)) ∈ lw_tbl := lw_at lw_m8 199 rfl
theorem q1976 : (Jvm.Cond.instanceMethod ({ cls := "LogCompactorModel", name := "lengthOf", desc := "(I)I" } : Jvm.MethodName)) ∈ lw_all := lw_g (lw_at lw_m8 200 rfl) rfl
theorem q1977 : (Jvm.Cond.code ({ cls := "LogCompactorModel", name := "lengthOf", desc := "(I)I" } : Jvm.MethodName) prog_17_method_6_code (2 : Nat) (Option.some Jvm.ClassFile.FieldType.int)) ∈ lw_all := lw_g (lw_at lw_m8 201 rfl) rfl
theorem q1978 : (Jvm.Cond.methodLink "LogCompactorModel" (67 : Nat) ({ cls := "LogCompactorModel", name := "charAt", desc := "(II)I" } : Jvm.MethodName)) ∈ lw_all := lw_g (lw_at lw_m8 202 rfl) rfl
theorem q1979 : (Jvm.Cond.privateMethod ({ cls := "LogCompactorModel", name := "charAt", desc := "(II)I" } : Jvm.MethodName)) ∈ lw_tbl := lw_at lw_m8 203 rfl
theorem q1980 : (Jvm.Cond.instanceMethod ({ cls := "LogCompactorModel", name := "charAt", desc := "(II)I" } : Jvm.MethodName)) ∈ lw_all := lw_g (lw_at lw_m8 204 rfl) rfl
theorem q1981 : (Jvm.Cond.code ({ cls := "LogCompactorModel", name := "charAt", desc := "(II)I" } : Jvm.MethodName) prog_17_method_7_code (3 : Nat) (Option.some Jvm.ClassFile.FieldType.int)) ∈ lw_all := lw_g (lw_at lw_m8 205 rfl) rfl
theorem q1982 : (Jvm.Cond.methodLink "LogCompactorModel" (138 : Nat) ({ cls := "LogCompactorModel", name := "takerOf", desc := "(I)I" } : Jvm.MethodName)) ∈ lw_all := lw_g (lw_at lw_m8 206 rfl) rfl
theorem q1983 : (Jvm.Cond.privateMethod ({ cls := "LogCompactorModel", name := "takerOf", desc := "(I)I" } : Jvm.MethodName)) ∈ lw_tbl := lw_at lw_m8 207 rfl
theorem q1984 : (Jvm.Cond.instanceMethod ({ cls := "LogCompactorModel", name := "takerOf", desc := "(I)I" } : Jvm.MethodName)) ∈ lw_all := lw_g (lw_at lw_m8 208 rfl) rfl
theorem q1985 : (Jvm.Cond.code ({ cls := "LogCompactorModel", name := "takerOf", desc := "(I)I" } : Jvm.MethodName) prog_17_method_33_code (5 : Nat) (Option.some Jvm.ClassFile.FieldType.int)) ∈ lw_all := lw_g (lw_at lw_m8 209 rfl) rfl
theorem q1986 : (Jvm.Cond.methodLink "LogCompactorModel" (91 : Nat) ({ cls := "LogCompactorModel", name := "isTemplate", desc := "(I)Z" } : Jvm.MethodName)) ∈ lw_all := lw_g (lw_at lw_m8 210 rfl) rfl
theorem q1987 : (Jvm.Cond.privateMethod ({ cls := "LogCompactorModel", name := "isTemplate", desc := "(I)Z" } : Jvm.MethodName)) ∈ lw_tbl := lw_at lw_m8 211 rfl
theorem q1988 : (Jvm.Cond.instanceMethod ({ cls := "LogCompactorModel", name := "isTemplate", desc := "(I)Z" } : Jvm.MethodName)) ∈ lw_all := lw_g (lw_at lw_m8 212 rfl) rfl
theorem q1989 : (Jvm.Cond.code ({ cls := "LogCompactorModel", name := "isTemplate", desc := "(I)Z" } : Jvm.MethodName) prog_17_method_20_code (2 : Nat) (Option.some Jvm.ClassFile.FieldType.boolean)) ∈ lw_all := lw_g (lw_at lw_m8 213 rfl) rfl
theorem q1990 : (Jvm.Cond.methodLink "LogCompactorModel" (88 : Nat) ({ cls := "LogCompactorModel", name := "lineOf", desc := "(II)I" } : Jvm.MethodName)) ∈ lw_all := lw_g (lw_at lw_m8 214 rfl) rfl
theorem q1991 : (Jvm.Cond.privateMethod ({ cls := "LogCompactorModel", name := "lineOf", desc := "(II)I" } : Jvm.MethodName)) ∈ lw_tbl := lw_at lw_m8 215 rfl
theorem q1992 : (Jvm.Cond.instanceMethod ({ cls := "LogCompactorModel", name := "lineOf", desc := "(II)I" } : Jvm.MethodName)) ∈ lw_all := lw_g (lw_at lw_m8 216 rfl) rfl
theorem q1993 : (Jvm.Cond.code ({ cls := "LogCompactorModel", name := "lineOf", desc := "(II)I" } : Jvm.MethodName) prog_17_method_19_code (5 : Nat) (Option.some Jvm.ClassFile.FieldType.int)) ∈ lw_all := lw_g (lw_at lw_m8 217 rfl) rfl
theorem q1994 : (Jvm.Cond.methodLink "LogCompactorModel" (128 : Nat) ({ cls := "LogCompactorModel", name := "isMatch", desc := "(II)Z" } : Jvm.MethodName)) ∈ lw_all := lw_g (lw_at lw_m8 218 rfl) rfl
theorem q1995 : (Jvm.Cond.privateMethod ({ cls := "LogCompactorModel", name := "isMatch", desc := "(II)Z" } : Jvm.MethodName)) ∈ lw_tbl := lw_at lw_m8 219 rfl
theorem q1996 : (Jvm.Cond.instanceMethod ({ cls := "LogCompactorModel", name := "isMatch", desc := "(II)Z" } : Jvm.MethodName)) ∈ lw_all := lw_g (lw_at lw_m8 220 rfl) rfl
theorem q1997 : (Jvm.Cond.code ({ cls := "LogCompactorModel", name := "isMatch", desc := "(II)Z" } : Jvm.MethodName) prog_17_method_26_code (7 : Nat) (Option.some Jvm.ClassFile.FieldType.boolean)) ∈ lw_all := lw_g (lw_at lw_m8 221 rfl) rfl
theorem q1998 : (Jvm.Cond.methodLink "LogCompactorModel" (104 : Nat) ({ cls := "LogCompactorModel", name := "isForm", desc := "(II)Z" } : Jvm.MethodName)) ∈ lw_all := lw_g (lw_at lw_m8 222 rfl) rfl
theorem q1999 : (Jvm.Cond.privateMethod ({ cls := "LogCompactorModel", name := "isForm", desc := "(II)Z" } : Jvm.MethodName)) ∈ lw_tbl := lw_at lw_m8 223 rfl
theorem q2000 : (Jvm.Cond.instanceMethod ({ cls := "LogCompactorModel", name := "isForm", desc := "(II)Z" } : Jvm.MethodName)) ∈ lw_all := lw_g (lw_at lw_m8 224 rfl) rfl
theorem q2001 : (Jvm.Cond.code ({ cls := "LogCompactorModel", name := "isForm", desc := "(II)Z" } : Jvm.MethodName) prog_17_method_24_code (5 : Nat) (Option.some Jvm.ClassFile.FieldType.boolean)) ∈ lw_all := lw_g (lw_at lw_m8 225 rfl) rfl
theorem q2002 : (Jvm.Cond.methodLink "LogCompactorModel" (94 : Nat) ({ cls := "LogCompactorModel", name := "gap", desc := "(II)I" } : Jvm.MethodName)) ∈ lw_all := lw_g (lw_at lw_m8 226 rfl) rfl
theorem q2003 : (Jvm.Cond.privateMethod ({ cls := "LogCompactorModel", name := "gap", desc := "(II)I" } : Jvm.MethodName)) ∈ lw_tbl := lw_at lw_m8 227 rfl
theorem q2004 : (Jvm.Cond.instanceMethod ({ cls := "LogCompactorModel", name := "gap", desc := "(II)I" } : Jvm.MethodName)) ∈ lw_all := lw_g (lw_at lw_m8 228 rfl) rfl
theorem q2005 : (Jvm.Cond.code ({ cls := "LogCompactorModel", name := "gap", desc := "(II)I" } : Jvm.MethodName) prog_17_method_13_code (4 : Nat) (Option.some Jvm.ClassFile.FieldType.int)) ∈ lw_all := lw_g (lw_at lw_m8 229 rfl) rfl
theorem q2006 : (Jvm.Cond.methodLink "LogCompactorModel" (75 : Nat) ({ cls := "LogCompactorModel", name := "toOf", desc := "(II)I" } : Jvm.MethodName)) ∈ lw_all := lw_g (lw_at lw_m8 230 rfl) rfl
theorem q2007 : (Jvm.Cond.privateMethod ({ cls := "LogCompactorModel", name := "toOf", desc := "(II)I" } : Jvm.MethodName)) ∈ lw_tbl := lw_at lw_m8 231 rfl
theorem q2008 : (Jvm.Cond.instanceMethod ({ cls := "LogCompactorModel", name := "toOf", desc := "(II)I" } : Jvm.MethodName)) ∈ lw_all := lw_g (lw_at lw_m8 232 rfl) rfl
theorem q2009 : (Jvm.Cond.code ({ cls := "LogCompactorModel", name := "toOf", desc := "(II)I" } : Jvm.MethodName) prog_17_method_11_code (3 : Nat) (Option.some Jvm.ClassFile.FieldType.int)) ∈ lw_all := lw_g (lw_at lw_m8 233 rfl) rfl
theorem q2010 : (Jvm.Cond.methodLink "LogCompactorModel" (78 : Nat) ({ cls := "LogCompactorModel", name := "fromOf", desc := "(II)I" } : Jvm.MethodName)) ∈ lw_all := lw_g (lw_at lw_m8 234 rfl) rfl
theorem q2011 : (Jvm.Cond.privateMethod ({ cls := "LogCompactorModel", name := "fromOf", desc := "(II)I" } : Jvm.MethodName)) ∈ lw_tbl := lw_at lw_m8 235 rfl
theorem q2012 : (Jvm.Cond.instanceMethod ({ cls := "LogCompactorModel", name := "fromOf", desc := "(II)I" } : Jvm.MethodName)) ∈ lw_all := lw_g (lw_at lw_m8 236 rfl) rfl
theorem q2013 : (Jvm.Cond.code ({ cls := "LogCompactorModel", name := "fromOf", desc := "(II)I" } : Jvm.MethodName) prog_17_method_10_code (3 : Nat) (Option.some Jvm.ClassFile.FieldType.int)) ∈ lw_all := lw_g (lw_at lw_m8 237 rfl) rfl
theorem q2014 : (Jvm.Cond.methodLink "LogCompactorModel" (97 : Nat) ({ cls := "LogCompactorModel", name := "slotOf", desc := "(II)I" } : Jvm.MethodName)) ∈ lw_all := lw_g (lw_at lw_m8 238 rfl) rfl
theorem q2015 : (Jvm.Cond.privateMethod ({ cls := "LogCompactorModel", name := "slotOf", desc := "(II)I" } : Jvm.MethodName)) ∈ lw_tbl := lw_at lw_m8 239 rfl
theorem q2016 : (Jvm.Cond.instanceMethod ({ cls := "LogCompactorModel", name := "slotOf", desc := "(II)I" } : Jvm.MethodName)) ∈ lw_all := lw_g (lw_at lw_m9 0 rfl) rfl
theorem q2017 : (Jvm.Cond.code ({ cls := "LogCompactorModel", name := "slotOf", desc := "(II)I" } : Jvm.MethodName) prog_17_method_23_code (3 : Nat) (Option.some Jvm.ClassFile.FieldType.int)) ∈ lw_all := lw_g (lw_at lw_m9 1 rfl) rfl
theorem q2018 : (Jvm.Cond.methodLink "LogCompactorModel" (100 : Nat) ({ cls := "LogCompactorModel", name := "isSame", desc := "(IIII)Z" } : Jvm.MethodName)) ∈ lw_all := lw_g (lw_at lw_m9 2 rfl) rfl
theorem q2019 : (Jvm.Cond.privateMethod ({ cls := "LogCompactorModel", name := "isSame", desc := "(IIII)Z" } : Jvm.MethodName)) ∈ lw_tbl := lw_at lw_m9 3 rfl
theorem q2020 : (Jvm.Cond.instanceMethod ({ cls := "LogCompactorModel", name := "isSame", desc := "(IIII)Z" } : Jvm.MethodName)) ∈ lw_all := lw_g (lw_at lw_m9 4 rfl) rfl
theorem q2021 : (Jvm.Cond.code ({ cls := "LogCompactorModel", name := "isSame", desc := "(IIII)Z" } : Jvm.MethodName) prog_17_method_14_code (7 : Nat) (Option.some Jvm.ClassFile.FieldType.boolean)) ∈ lw_all := lw_g (lw_at lw_m9 5 rfl) rfl
theorem q2022 : (Jvm.Cond.methodLink "LogCompactorModel" (81 : Nat) ({ cls := "LogCompactorModel", name := "wide", desc := "(II)I" } : Jvm.MethodName)) ∈ lw_all := lw_g (lw_at lw_m9 6 rfl) rfl
theorem q2023 : (Jvm.Cond.privateMethod ({ cls := "LogCompactorModel", name := "wide", desc := "(II)I" } : Jvm.MethodName)) ∈ lw_tbl := lw_at lw_m9 7 rfl
theorem q2024 : (Jvm.Cond.instanceMethod ({ cls := "LogCompactorModel", name := "wide", desc := "(II)I" } : Jvm.MethodName)) ∈ lw_all := lw_g (lw_at lw_m9 8 rfl) rfl
theorem q2025 : (Jvm.Cond.code ({ cls := "LogCompactorModel", name := "wide", desc := "(II)I" } : Jvm.MethodName) prog_17_method_12_code (3 : Nat) (Option.some Jvm.ClassFile.FieldType.int)) ∈ lw_all := lw_g (lw_at lw_m9 9 rfl) rfl
theorem q2026 : (Jvm.Cond.methodLink "LogCompactorModel" (108 : Nat) ({ cls := "LogCompactorModel", name := "typeOf", desc := "(II)I" } : Jvm.MethodName)) ∈ lw_all := lw_g (lw_at lw_m9 10 rfl) rfl
theorem q2027 : (Jvm.Cond.privateMethod ({ cls := "LogCompactorModel", name := "typeOf", desc := "(II)I" } : Jvm.MethodName)) ∈ lw_tbl := lw_at lw_m9 11 rfl
theorem q2028 : (Jvm.Cond.instanceMethod ({ cls := "LogCompactorModel", name := "typeOf", desc := "(II)I" } : Jvm.MethodName)) ∈ lw_all := lw_g (lw_at lw_m9 12 rfl) rfl
theorem q2029 : (Jvm.Cond.code ({ cls := "LogCompactorModel", name := "typeOf", desc := "(II)I" } : Jvm.MethodName) prog_17_method_16_code (9 : Nat) (Option.some Jvm.ClassFile.FieldType.int)) ∈ lw_all := lw_g (lw_at lw_m9 13 rfl) rfl
theorem q2030 : (Jvm.Cond.methodLink "LogCompactorModel" (84 : Nat) ({ cls := "LogCompactorModel", name := "isDigit", desc := "(I)Z" } : Jvm.MethodName)) ∈ lw_all := lw_g (lw_at lw_m9 14 rfl) rfl
theorem q2031 : (Jvm.Cond.static ({ cls := "LogCompactorModel", name := "isDigit", desc := "(I)Z" } : Jvm.MethodName)) ∈ lw_all := lw_g (lw_at lw_m9 15 rfl) rfl
theorem q2032 : (Jvm.Cond.code ({ cls := "LogCompactorModel", name := "isDigit", desc := "(I)Z" } : Jvm.MethodName) prog_17_method_15_code (1 : Nat) (Option.some Jvm.ClassFile.FieldType.boolean)) ∈ lw_all := lw_g (lw_at lw_m9 16 rfl) rfl
theorem q2033 : (Jvm.Cond.methodLink "LogCompactorModel" (131 : Nat) ({ cls := "LogCompactorModel", name := "fit", desc := "(II)I" } : Jvm.MethodName)) ∈ lw_all := lw_g (lw_at lw_m9 17 rfl) rfl
theorem q2034 : (Jvm.Cond.privateMethod ({ cls := "LogCompactorModel", name := "fit", desc := "(II)I" } : Jvm.MethodName)) ∈ lw_tbl := lw_at lw_m9 18 rfl
theorem q2035 : (Jvm.Cond.instanceMethod ({ cls := "LogCompactorModel", name := "fit", desc := "(II)I" } : Jvm.MethodName)) ∈ lw_all := lw_g (lw_at lw_m9 19 rfl) rfl
theorem q2036 : (Jvm.Cond.code ({ cls := "LogCompactorModel", name := "fit", desc := "(II)I" } : Jvm.MethodName) prog_17_method_25_code (6 : Nat) (Option.some Jvm.ClassFile.FieldType.int)) ∈ lw_all := lw_g (lw_at lw_m9 20 rfl) rfl
theorem q2037 : (Jvm.Cond.methodLink "LogCompactorModel" (134 : Nat) ({ cls := "LogCompactorModel", name := "freeTemplate", desc := "()I" } : Jvm.MethodName)) ∈ lw_all := lw_g (lw_at lw_m9 21 rfl) rfl
theorem q2038 : (Jvm.Cond.privateMethod ({ cls := "LogCompactorModel", name := "freeTemplate", desc := "()I" } : Jvm.MethodName)) ∈ lw_tbl := lw_at lw_m9 22 rfl
theorem q2039 : (Jvm.Cond.instanceMethod ({ cls := "LogCompactorModel", name := "freeTemplate", desc := "()I" } : Jvm.MethodName)) ∈ lw_all := lw_g (lw_at lw_m9 23 rfl) rfl
theorem q2040 : (Jvm.Cond.code ({ cls := "LogCompactorModel", name := "freeTemplate", desc := "()I" } : Jvm.MethodName) prog_17_method_22_code (2 : Nat) (Option.some Jvm.ClassFile.FieldType.int)) ∈ lw_all := lw_g (lw_at lw_m9 24 rfl) rfl
theorem q2041 : (Jvm.Cond.methodLink "LogCompactorModel" (141 : Nat) ({ cls := "LogCompactorModel", name := "reports", desc := "(IIII)I" } : Jvm.MethodName)) ∈ lw_all := lw_g (lw_at lw_m9 25 rfl) rfl
theorem q2042 : (Jvm.Cond.privateMethod ({ cls := "LogCompactorModel", name := "reports", desc := "(IIII)I" } : Jvm.MethodName)) ∈ lw_tbl := lw_at lw_m9 26 rfl
theorem q2043 : (Jvm.Cond.instanceMethod ({ cls := "LogCompactorModel", name := "reports", desc := "(IIII)I" } : Jvm.MethodName)) ∈ lw_all := lw_g (lw_at lw_m9 27 rfl) rfl
theorem q2044 : (Jvm.Cond.code ({ cls := "LogCompactorModel", name := "reports", desc := "(IIII)I" } : Jvm.MethodName) prog_17_method_29_code (5 : Nat) (Option.some Jvm.ClassFile.FieldType.int)) ∈ lw_all := lw_g (lw_at lw_m9 28 rfl) rfl
theorem q2045 : (Jvm.Cond.methodLink "LogCompactorModel" (145 : Nat) ({ cls := "LogCompactorModel", name := "keep", desc := "()V" } : Jvm.MethodName)) ∈ lw_all := lw_g (lw_at lw_m9 29 rfl) rfl
theorem q2046 : (Jvm.Cond.privateMethod ({ cls := "LogCompactorModel", name := "keep", desc := "()V" } : Jvm.MethodName)) ∈ lw_tbl := lw_at lw_m9 30 rfl
theorem q2047 : (Jvm.Cond.instanceMethod ({ cls := "LogCompactorModel", name := "keep", desc := "()V" } : Jvm.MethodName)) ∈ lw_all := lw_g (lw_at lw_m9 31 rfl) rfl
theorem q2048 : (Jvm.Cond.code ({ cls := "LogCompactorModel", name := "keep", desc := "()V" } : Jvm.MethodName) prog_17_method_32_code (2 : Nat) (Option.none : Option Jvm.ClassFile.FieldType)) ∈ lw_all := lw_g (lw_at lw_m9 32 rfl) rfl
theorem q2049 : (Jvm.Cond.methodLink "LogCompactorModel" (148 : Nat) ({ cls := "LogCompactorModel", name := "widen", desc := "(II)V" } : Jvm.MethodName)) ∈ lw_all := lw_g (lw_at lw_m9 33 rfl) rfl
theorem q2050 : (Jvm.Cond.privateMethod ({ cls := "LogCompactorModel", name := "widen", desc := "(II)V" } : Jvm.MethodName)) ∈ lw_tbl := lw_at lw_m9 34 rfl
theorem q2051 : (Jvm.Cond.instanceMethod ({ cls := "LogCompactorModel", name := "widen", desc := "(II)V" } : Jvm.MethodName)) ∈ lw_all := lw_g (lw_at lw_m9 35 rfl) rfl
theorem q2052 : (Jvm.Cond.code ({ cls := "LogCompactorModel", name := "widen", desc := "(II)V" } : Jvm.MethodName) prog_17_method_28_code (5 : Nat) (Option.none : Option Jvm.ClassFile.FieldType)) ∈ lw_all := lw_g (lw_at lw_m9 36 rfl) rfl
theorem q2053 : (Jvm.Cond.methodLink "LogCompactorModel" (111 : Nat) ({ cls := "LogCompactorModel", name := "union", desc := "(IIIII)I" } : Jvm.MethodName)) ∈ lw_all := lw_g (lw_at lw_m9 37 rfl) rfl
theorem q2054 : (Jvm.Cond.privateMethod ({ cls := "LogCompactorModel", name := "union", desc := "(IIIII)I" } : Jvm.MethodName)) ∈ lw_tbl := lw_at lw_m9 38 rfl
theorem q2055 : (Jvm.Cond.instanceMethod ({ cls := "LogCompactorModel", name := "union", desc := "(IIIII)I" } : Jvm.MethodName)) ∈ lw_all := lw_g (lw_at lw_m9 39 rfl) rfl
theorem q2056 : (Jvm.Cond.code ({ cls := "LogCompactorModel", name := "union", desc := "(IIIII)I" } : Jvm.MethodName) prog_17_method_27_code (8 : Nat) (Option.some Jvm.ClassFile.FieldType.int)) ∈ lw_all := lw_g (lw_at lw_m9 40 rfl) rfl
theorem q2058 : (Jvm.Cond.instanceMethod ({ cls := "LogCompactorModel", name := "line", desc := "(II)I" } : Jvm.MethodName)) ∈ lw_all := lw_g (lw_at lw_m9 42 rfl) rfl
theorem q2059 : (Jvm.Cond.selects "LogCompactorModel" ({ cls := "LogCompactorModel", name := "line", desc := "(II)I" } : Jvm.MethodName) ({ cls := "LogCompactorModel", name := "line", desc := "(II)I" } : Jvm.MethodName)) ∈ lw_all := lw_g (lw_at lw_m9 43 rfl) rfl
theorem q2060 : (Jvm.Cond.code ({ cls := "LogCompactorModel", name := "line", desc := "(II)I" } : Jvm.MethodName) prog_17_method_35_code (3 : Nat) (Option.some Jvm.ClassFile.FieldType.int)) ∈ lw_all := lw_g (lw_at lw_m9 44 rfl) rfl
theorem q2061 : (Jvm.Cond.methodLink "LogCompactorModel" (152 : Nat) ({ cls := "LogCompactorModel", name := "isLine", desc := "(I)Z" } : Jvm.MethodName)) ∈ lw_all := lw_g (lw_at lw_m9 45 rfl) rfl
theorem q2062 : (Jvm.Cond.privateMethod ({ cls := "LogCompactorModel", name := "isLine", desc := "(I)Z" } : Jvm.MethodName)) ∈ lw_tbl := lw_at lw_m9 46 rfl
theorem q2063 : (Jvm.Cond.instanceMethod ({ cls := "LogCompactorModel", name := "isLine", desc := "(I)Z" } : Jvm.MethodName)) ∈ lw_all := lw_g (lw_at lw_m9 47 rfl) rfl
theorem q2064 : (Jvm.Cond.code ({ cls := "LogCompactorModel", name := "isLine", desc := "(I)Z" } : Jvm.MethodName) prog_17_method_5_code (2 : Nat) (Option.some Jvm.ClassFile.FieldType.boolean)) ∈ lw_all := lw_g (lw_at lw_m9 48 rfl) rfl
theorem q2066 : (Jvm.Cond.instanceMethod ({ cls := "LogCompactorModel", name := "place", desc := "(II)I" } : Jvm.MethodName)) ∈ lw_all := lw_g (lw_at lw_m9 50 rfl) rfl
theorem q2067 : (Jvm.Cond.selects "LogCompactorModel" ({ cls := "LogCompactorModel", name := "place", desc := "(II)I" } : Jvm.MethodName) ({ cls := "LogCompactorModel", name := "place", desc := "(II)I" } : Jvm.MethodName)) ∈ lw_all := lw_g (lw_at lw_m9 51 rfl) rfl
theorem q2068 : (Jvm.Cond.code ({ cls := "LogCompactorModel", name := "place", desc := "(II)I" } : Jvm.MethodName) prog_17_method_36_code (6 : Nat) (Option.some Jvm.ClassFile.FieldType.int)) ∈ lw_all := lw_g (lw_at lw_m9 52 rfl) rfl
theorem q2070 : (Jvm.Cond.instanceMethod ({ cls := "LogCompactorModel", name := "cut", desc := "(I)I" } : Jvm.MethodName)) ∈ lw_all := lw_g (lw_at lw_m9 54 rfl) rfl
theorem q2071 : (Jvm.Cond.selects "LogCompactorModel" ({ cls := "LogCompactorModel", name := "cut", desc := "(I)I" } : Jvm.MethodName) ({ cls := "LogCompactorModel", name := "cut", desc := "(I)I" } : Jvm.MethodName)) ∈ lw_all := lw_g (lw_at lw_m9 55 rfl) rfl
theorem q2072 : (Jvm.Cond.code ({ cls := "LogCompactorModel", name := "cut", desc := "(I)I" } : Jvm.MethodName) prog_17_method_37_code (3 : Nat) (Option.some Jvm.ClassFile.FieldType.int)) ∈ lw_all := lw_g (lw_at lw_m9 56 rfl) rfl
theorem q2074 : (Jvm.Cond.instanceMethod ({ cls := "LogCompactorModel", name := "setThreshold", desc := "(I)I" } : Jvm.MethodName)) ∈ lw_all := lw_g (lw_at lw_m9 58 rfl) rfl
theorem q2075 : (Jvm.Cond.selects "LogCompactorModel" ({ cls := "LogCompactorModel", name := "setThreshold", desc := "(I)I" } : Jvm.MethodName) ({ cls := "LogCompactorModel", name := "setThreshold", desc := "(I)I" } : Jvm.MethodName)) ∈ lw_all := lw_g (lw_at lw_m9 59 rfl) rfl
theorem q2076 : (Jvm.Cond.code ({ cls := "LogCompactorModel", name := "setThreshold", desc := "(I)I" } : Jvm.MethodName) prog_17_method_38_code (3 : Nat) (Option.some Jvm.ClassFile.FieldType.int)) ∈ lw_all := lw_g (lw_at lw_m9 60 rfl) rfl
theorem q2078 : (Jvm.Cond.instanceMethod ({ cls := "LogCompactorModel", name := "templates", desc := "()I" } : Jvm.MethodName)) ∈ lw_all := lw_g (lw_at lw_m9 62 rfl) rfl
theorem q2079 : (Jvm.Cond.selects "LogCompactorModel" ({ cls := "LogCompactorModel", name := "templates", desc := "()I" } : Jvm.MethodName) ({ cls := "LogCompactorModel", name := "templates", desc := "()I" } : Jvm.MethodName)) ∈ lw_all := lw_g (lw_at lw_m9 63 rfl) rfl
theorem q2080 : (Jvm.Cond.code ({ cls := "LogCompactorModel", name := "templates", desc := "()I" } : Jvm.MethodName) prog_17_method_39_code (3 : Nat) (Option.some Jvm.ClassFile.FieldType.int)) ∈ lw_all := lw_g (lw_at lw_m9 64 rfl) rfl
theorem q2082 : (Jvm.Cond.instanceMethod ({ cls := "LogCompactorModel", name := "template", desc := "(II)I" } : Jvm.MethodName)) ∈ lw_all := lw_g (lw_at lw_m9 66 rfl) rfl
theorem q2083 : (Jvm.Cond.selects "LogCompactorModel" ({ cls := "LogCompactorModel", name := "template", desc := "(II)I" } : Jvm.MethodName) ({ cls := "LogCompactorModel", name := "template", desc := "(II)I" } : Jvm.MethodName)) ∈ lw_all := lw_g (lw_at lw_m9 67 rfl) rfl
theorem q2084 : (Jvm.Cond.code ({ cls := "LogCompactorModel", name := "template", desc := "(II)I" } : Jvm.MethodName) prog_17_method_44_code (3 : Nat) (Option.some Jvm.ClassFile.FieldType.int)) ∈ lw_all := lw_g (lw_at lw_m9 68 rfl) rfl
theorem q2085 : (Jvm.Cond.methodLink "LogCompactorModel" (155 : Nat) ({ cls := "LogCompactorModel", name := "tokensOf", desc := "(I)I" } : Jvm.MethodName)) ∈ lw_all := lw_g (lw_at lw_m9 69 rfl) rfl
theorem q2086 : (Jvm.Cond.privateMethod ({ cls := "LogCompactorModel", name := "tokensOf", desc := "(I)I" } : Jvm.MethodName)) ∈ lw_tbl := lw_at lw_m9 70 rfl
theorem q2087 : (Jvm.Cond.instanceMethod ({ cls := "LogCompactorModel", name := "tokensOf", desc := "(I)I" } : Jvm.MethodName)) ∈ lw_all := lw_g (lw_at lw_m9 71 rfl) rfl
theorem q2088 : (Jvm.Cond.code ({ cls := "LogCompactorModel", name := "tokensOf", desc := "(I)I" } : Jvm.MethodName) prog_17_method_40_code (2 : Nat) (Option.some Jvm.ClassFile.FieldType.int)) ∈ lw_all := lw_g (lw_at lw_m9 72 rfl) rfl
theorem q2089 : (Jvm.Cond.methodLink "LogCompactorModel" (161 : Nat) ({ cls := "LogCompactorModel", name := "variables", desc := "(I)I" } : Jvm.MethodName)) ∈ lw_all := lw_g (lw_at lw_m9 73 rfl) rfl
theorem q2090 : (Jvm.Cond.privateMethod ({ cls := "LogCompactorModel", name := "variables", desc := "(I)I" } : Jvm.MethodName)) ∈ lw_tbl := lw_at lw_m9 74 rfl
theorem q2091 : (Jvm.Cond.instanceMethod ({ cls := "LogCompactorModel", name := "variables", desc := "(I)I" } : Jvm.MethodName)) ∈ lw_all := lw_g (lw_at lw_m9 75 rfl) rfl
theorem q2092 : (Jvm.Cond.code ({ cls := "LogCompactorModel", name := "variables", desc := "(I)I" } : Jvm.MethodName) prog_17_method_41_code (4 : Nat) (Option.some Jvm.ClassFile.FieldType.int)) ∈ lw_all := lw_g (lw_at lw_m9 76 rfl) rfl
theorem q2093 : (Jvm.Cond.methodLink "LogCompactorModel" (164 : Nat) ({ cls := "LogCompactorModel", name := "rowsOf", desc := "(I)I" } : Jvm.MethodName)) ∈ lw_all := lw_g (lw_at lw_m9 77 rfl) rfl
theorem q2094 : (Jvm.Cond.privateMethod ({ cls := "LogCompactorModel", name := "rowsOf", desc := "(I)I" } : Jvm.MethodName)) ∈ lw_tbl := lw_at lw_m9 78 rfl
theorem q2095 : (Jvm.Cond.instanceMethod ({ cls := "LogCompactorModel", name := "rowsOf", desc := "(I)I" } : Jvm.MethodName)) ∈ lw_all := lw_g (lw_at lw_m9 79 rfl) rfl
theorem q2096 : (Jvm.Cond.code ({ cls := "LogCompactorModel", name := "rowsOf", desc := "(I)I" } : Jvm.MethodName) prog_17_method_18_code (4 : Nat) (Option.some Jvm.ClassFile.FieldType.int)) ∈ lw_all := lw_g (lw_at lw_m9 80 rfl) rfl
theorem q2097 : (Jvm.Cond.methodLink "LogCompactorModel" (167 : Nat) ({ cls := "LogCompactorModel", name := "costOfTemplate", desc := "(I)I" } : Jvm.MethodName)) ∈ lw_all := lw_g (lw_at lw_m9 81 rfl) rfl
theorem q2098 : (Jvm.Cond.privateMethod ({ cls := "LogCompactorModel", name := "costOfTemplate", desc := "(I)I" } : Jvm.MethodName)) ∈ lw_tbl := lw_at lw_m9 82 rfl
theorem q2099 : (Jvm.Cond.instanceMethod ({ cls := "LogCompactorModel", name := "costOfTemplate", desc := "(I)I" } : Jvm.MethodName)) ∈ lw_all := lw_g (lw_at lw_m9 83 rfl) rfl
theorem q2100 : (Jvm.Cond.code ({ cls := "LogCompactorModel", name := "costOfTemplate", desc := "(I)I" } : Jvm.MethodName) prog_17_method_43_code (5 : Nat) (Option.some Jvm.ClassFile.FieldType.int)) ∈ lw_all := lw_g (lw_at lw_m9 84 rfl) rfl
theorem q2101 : (Jvm.Cond.methodLink "LogCompactorModel" (158 : Nat) ({ cls := "LogCompactorModel", name := "gaps", desc := "(I)I" } : Jvm.MethodName)) ∈ lw_all := lw_g (lw_at lw_m9 85 rfl) rfl
theorem q2102 : (Jvm.Cond.privateMethod ({ cls := "LogCompactorModel", name := "gaps", desc := "(I)I" } : Jvm.MethodName)) ∈ lw_tbl := lw_at lw_m9 86 rfl
theorem q2103 : (Jvm.Cond.instanceMethod ({ cls := "LogCompactorModel", name := "gaps", desc := "(I)I" } : Jvm.MethodName)) ∈ lw_all := lw_g (lw_at lw_m9 87 rfl) rfl
theorem q2104 : (Jvm.Cond.code ({ cls := "LogCompactorModel", name := "gaps", desc := "(I)I" } : Jvm.MethodName) prog_17_method_42_code (5 : Nat) (Option.some Jvm.ClassFile.FieldType.int)) ∈ lw_all := lw_g (lw_at lw_m9 88 rfl) rfl
theorem q2106 : (Jvm.Cond.instanceMethod ({ cls := "LogCompactorModel", name := "slot", desc := "(II)I" } : Jvm.MethodName)) ∈ lw_all := lw_g (lw_at lw_m9 90 rfl) rfl
theorem q2107 : (Jvm.Cond.selects "LogCompactorModel" ({ cls := "LogCompactorModel", name := "slot", desc := "(II)I" } : Jvm.MethodName) ({ cls := "LogCompactorModel", name := "slot", desc := "(II)I" } : Jvm.MethodName)) ∈ lw_all := lw_g (lw_at lw_m9 91 rfl) rfl
theorem q2108 : (Jvm.Cond.code ({ cls := "LogCompactorModel", name := "slot", desc := "(II)I" } : Jvm.MethodName) prog_17_method_45_code (4 : Nat) (Option.some Jvm.ClassFile.FieldType.int)) ∈ lw_all := lw_g (lw_at lw_m9 92 rfl) rfl
theorem q2110 : (Jvm.Cond.instanceMethod ({ cls := "LogCompactorModel", name := "pattern", desc := "(II)I" } : Jvm.MethodName)) ∈ lw_all := lw_g (lw_at lw_m9 94 rfl) rfl
theorem q2111 : (Jvm.Cond.selects "LogCompactorModel" ({ cls := "LogCompactorModel", name := "pattern", desc := "(II)I" } : Jvm.MethodName) ({ cls := "LogCompactorModel", name := "pattern", desc := "(II)I" } : Jvm.MethodName)) ∈ lw_all := lw_g (lw_at lw_m9 95 rfl) rfl
theorem q2112 : (Jvm.Cond.code ({ cls := "LogCompactorModel", name := "pattern", desc := "(II)I" } : Jvm.MethodName) prog_17_method_48_code (3 : Nat) (Option.some Jvm.ClassFile.FieldType.int)) ∈ lw_all := lw_g (lw_at lw_m9 96 rfl) rfl
theorem q2113 : (Jvm.Cond.methodLink "LogCompactorModel" (176 : Nat) ({ cls := "LogCompactorModel", name := "layPattern", desc := "(I)V" } : Jvm.MethodName)) ∈ lw_all := lw_g (lw_at lw_m9 97 rfl) rfl
theorem q2114 : (Jvm.Cond.privateMethod ({ cls := "LogCompactorModel", name := "layPattern", desc := "(I)V" } : Jvm.MethodName)) ∈ lw_tbl := lw_at lw_m9 98 rfl
theorem q2115 : (Jvm.Cond.instanceMethod ({ cls := "LogCompactorModel", name := "layPattern", desc := "(I)V" } : Jvm.MethodName)) ∈ lw_all := lw_g (lw_at lw_m9 99 rfl) rfl
theorem q2116 : (Jvm.Cond.code ({ cls := "LogCompactorModel", name := "layPattern", desc := "(I)V" } : Jvm.MethodName) prog_17_method_47_code (5 : Nat) (Option.none : Option Jvm.ClassFile.FieldType)) ∈ lw_all := lw_g (lw_at lw_m9 100 rfl) rfl
theorem q2117 : (Jvm.Cond.methodLink "LogCompactorModel" (173 : Nat) ({ cls := "LogCompactorModel", name := "write", desc := "(I)V" } : Jvm.MethodName)) ∈ lw_all := lw_g (lw_at lw_m9 101 rfl) rfl
theorem q2118 : (Jvm.Cond.privateMethod ({ cls := "LogCompactorModel", name := "write", desc := "(I)V" } : Jvm.MethodName)) ∈ lw_tbl := lw_at lw_m9 102 rfl
theorem q2119 : (Jvm.Cond.instanceMethod ({ cls := "LogCompactorModel", name := "write", desc := "(I)V" } : Jvm.MethodName)) ∈ lw_all := lw_g (lw_at lw_m9 103 rfl) rfl
theorem q2120 : (Jvm.Cond.code ({ cls := "LogCompactorModel", name := "write", desc := "(I)V" } : Jvm.MethodName) prog_17_method_46_code (2 : Nat) (Option.none : Option Jvm.ClassFile.FieldType)) ∈ lw_all := lw_g (lw_at lw_m9 104 rfl) rfl
theorem q2122 : (Jvm.Cond.instanceMethod ({ cls := "LogCompactorModel", name := "row", desc := "(II)I" } : Jvm.MethodName)) ∈ lw_all := lw_g (lw_at lw_m9 106 rfl) rfl
theorem q2123 : (Jvm.Cond.selects "LogCompactorModel" ({ cls := "LogCompactorModel", name := "row", desc := "(II)I" } : Jvm.MethodName) ({ cls := "LogCompactorModel", name := "row", desc := "(II)I" } : Jvm.MethodName)) ∈ lw_all := lw_g (lw_at lw_m9 107 rfl) rfl
theorem q2124 : (Jvm.Cond.code ({ cls := "LogCompactorModel", name := "row", desc := "(II)I" } : Jvm.MethodName) prog_17_method_49_code (4 : Nat) (Option.some Jvm.ClassFile.FieldType.int)) ∈ lw_all := lw_g (lw_at lw_m9 108 rfl) rfl
theorem q2126 : (Jvm.Cond.instanceMethod ({ cls := "LogCompactorModel", name := "count", desc := "(I)I" } : Jvm.MethodName)) ∈ lw_all := lw_g (lw_at lw_m9 110 rfl) rfl
theorem q2127 : (Jvm.Cond.selects "LogCompactorModel" ({ cls := "LogCompactorModel", name := "count", desc := "(I)I" } : Jvm.MethodName) ({ cls := "LogCompactorModel", name := "count", desc := "(I)I" } : Jvm.MethodName)) ∈ lw_all := lw_g (lw_at lw_m9 111 rfl) rfl
theorem q2128 : (Jvm.Cond.code ({ cls := "LogCompactorModel", name := "count", desc := "(I)I" } : Jvm.MethodName) prog_17_method_62_code (4 : Nat) (Option.some Jvm.ClassFile.FieldType.int)) ∈ lw_all := lw_g (lw_at lw_m9 112 rfl) rfl
theorem q2129 : (Jvm.Cond.methodLink "LogCompactorModel" (214 : Nat) ({ cls := "LogCompactorModel", name := "templateMany", desc := "()I" } : Jvm.MethodName)) ∈ lw_all := lw_g (lw_at lw_m9 113 rfl) rfl
theorem q2130 : (Jvm.Cond.privateMethod ({ cls := "LogCompactorModel", name := "templateMany", desc := "()I" } : Jvm.MethodName)) ∈ lw_tbl := lw_at lw_m9 114 rfl
theorem q2131 : (Jvm.Cond.instanceMethod ({ cls := "LogCompactorModel", name := "templateMany", desc := "()I" } : Jvm.MethodName)) ∈ lw_all := lw_g (lw_at lw_m9 115 rfl) rfl
theorem q2132 : (Jvm.Cond.code ({ cls := "LogCompactorModel", name := "templateMany", desc := "()I" } : Jvm.MethodName) prog_17_method_21_code (3 : Nat) (Option.some Jvm.ClassFile.FieldType.int)) ∈ lw_all := lw_g (lw_at lw_m9 116 rfl) rfl
theorem q2133 : (Jvm.Cond.methodLink "LogCompactorModel" (217 : Nat) ({ cls := "LogCompactorModel", name := "characters", desc := "()I" } : Jvm.MethodName)) ∈ lw_all := lw_g (lw_at lw_m9 117 rfl) rfl
theorem q2134 : (Jvm.Cond.privateMethod ({ cls := "LogCompactorModel", name := "characters", desc := "()I" } : Jvm.MethodName)) ∈ lw_tbl := lw_at lw_m9 118 rfl
theorem q2135 : (Jvm.Cond.instanceMethod ({ cls := "LogCompactorModel", name := "characters", desc := "()I" } : Jvm.MethodName)) ∈ lw_all := lw_g (lw_at lw_m9 119 rfl) rfl
theorem q2136 : (Jvm.Cond.code ({ cls := "LogCompactorModel", name := "characters", desc := "()I" } : Jvm.MethodName) prog_17_method_61_code (3 : Nat) (Option.some Jvm.ClassFile.FieldType.int)) ∈ lw_all := lw_g (lw_at lw_m9 120 rfl) rfl
theorem q2137 : (Jvm.Cond.methodLink "LogCompactorModel" (220 : Nat) ({ cls := "LogCompactorModel", name := "costOfAll", desc := "()I" } : Jvm.MethodName)) ∈ lw_all := lw_g (lw_at lw_m9 121 rfl) rfl
theorem q2138 : (Jvm.Cond.privateMethod ({ cls := "LogCompactorModel", name := "costOfAll", desc := "()I" } : Jvm.MethodName)) ∈ lw_tbl := lw_at lw_m9 122 rfl
theorem q2139 : (Jvm.Cond.instanceMethod ({ cls := "LogCompactorModel", name := "costOfAll", desc := "()I" } : Jvm.MethodName)) ∈ lw_all := lw_g (lw_at lw_m9 123 rfl) rfl
theorem q2140 : (Jvm.Cond.code ({ cls := "LogCompactorModel", name := "costOfAll", desc := "()I" } : Jvm.MethodName) prog_17_method_60_code (4 : Nat) (Option.some Jvm.ClassFile.FieldType.int)) ∈ lw_all := lw_g (lw_at lw_m9 124 rfl) rfl
theorem q2141 : (Jvm.Cond.methodLink "LogCompactorModel" (211 : Nat) ({ cls := "LogCompactorModel", name := "wayOf", desc := "(II)I" } : Jvm.MethodName)) ∈ lw_all := lw_g (lw_at lw_m9 125 rfl) rfl
theorem q2142 : (Jvm.Cond.privateMethod ({ cls := "LogCompactorModel", name := "wayOf", desc := "(II)I" } : Jvm.MethodName)) ∈ lw_tbl := lw_at lw_m9 126 rfl
theorem q2143 : (Jvm.Cond.instanceMethod ({ cls := "LogCompactorModel", name := "wayOf", desc := "(II)I" } : Jvm.MethodName)) ∈ lw_all := lw_g (lw_at lw_m9 127 rfl) rfl
theorem q2144 : (Jvm.Cond.code ({ cls := "LogCompactorModel", name := "wayOf", desc := "(II)I" } : Jvm.MethodName) prog_17_method_59_code (6 : Nat) (Option.some Jvm.ClassFile.FieldType.int)) ∈ lw_all := lw_g (lw_at lw_m9 128 rfl) rfl
theorem q2145 : (Jvm.Cond.methodLink "LogCompactorModel" (207 : Nat) ({ cls := "LogCompactorModel", name := "costOf", desc := "(III)I" } : Jvm.MethodName)) ∈ lw_all := lw_g (lw_at lw_m9 129 rfl) rfl
theorem q2146 : (Jvm.Cond.privateMethod ({ cls := "LogCompactorModel", name := "costOf", desc := "(III)I" } : Jvm.MethodName)) ∈ lw_tbl := lw_at lw_m9 130 rfl
theorem q2147 : (Jvm.Cond.instanceMethod ({ cls := "LogCompactorModel", name := "costOf", desc := "(III)I" } : Jvm.MethodName)) ∈ lw_all := lw_g (lw_at lw_m9 131 rfl) rfl
theorem q2148 : (Jvm.Cond.code ({ cls := "LogCompactorModel", name := "costOf", desc := "(III)I" } : Jvm.MethodName) prog_17_method_58_code (4 : Nat) (Option.some Jvm.ClassFile.FieldType.int)) ∈ lw_all := lw_g (lw_at lw_m9 132 rfl) rfl
theorem q2149 : (Jvm.Cond.methodLink "LogCompactorModel" (194 : Nat) ({ cls := "LogCompactorModel", name := "layRows", desc := "(I)V" } : Jvm.MethodName)) ∈ lw_all := lw_g (lw_at lw_m9 133 rfl) rfl
theorem q2150 : (Jvm.Cond.privateMethod ({ cls := "LogCompactorModel", name := "layRows", desc := "(I)V" } : Jvm.MethodName)) ∈ lw_tbl := lw_at lw_m9 134 rfl
theorem q2151 : (Jvm.Cond.instanceMethod ({ cls := "LogCompactorModel", name := "layRows", desc := "(I)V" } : Jvm.MethodName)) ∈ lw_all := lw_g (lw_at lw_m9 135 rfl) rfl
theorem q2152 : (Jvm.Cond.code ({ cls := "LogCompactorModel", name := "layRows", desc := "(I)V" } : Jvm.MethodName) prog_17_method_52_code (3 : Nat) (Option.none : Option Jvm.ClassFile.FieldType)) ∈ lw_all := lw_g (lw_at lw_m9 136 rfl) rfl
theorem q2153 : (Jvm.Cond.methodLink "LogCompactorModel" (197 : Nat) ({ cls := "LogCompactorModel", name := "plain", desc := "(IZ)I" } : Jvm.MethodName)) ∈ lw_all := lw_g (lw_at lw_m9 137 rfl) rfl
theorem q2154 : (Jvm.Cond.privateMethod ({ cls := "LogCompactorModel", name := "plain", desc := "(IZ)I" } : Jvm.MethodName)) ∈ lw_tbl := lw_at lw_m9 138 rfl
theorem q2155 : (Jvm.Cond.instanceMethod ({ cls := "LogCompactorModel", name := "plain", desc := "(IZ)I" } : Jvm.MethodName)) ∈ lw_all := lw_g (lw_at lw_m9 139 rfl) rfl
theorem q2156 : (Jvm.Cond.code ({ cls := "LogCompactorModel", name := "plain", desc := "(IZ)I" } : Jvm.MethodName) prog_17_method_55_code (5 : Nat) (Option.some Jvm.ClassFile.FieldType.int)) ∈ lw_all := lw_g (lw_at lw_m9 140 rfl) rfl
theorem q2157 : (Jvm.Cond.methodLink "LogCompactorModel" (185 : Nat) ({ cls := "LogCompactorModel", name := "firstLike", desc := "(II)I" } : Jvm.MethodName)) ∈ lw_all := lw_g (lw_at lw_m9 141 rfl) rfl
theorem q2158 : (Jvm.Cond.privateMethod ({ cls := "LogCompactorModel", name := "firstLike", desc := "(II)I" } : Jvm.MethodName)) ∈ lw_tbl := lw_at lw_m9 142 rfl
theorem q2159 : (Jvm.Cond.instanceMethod ({ cls := "LogCompactorModel", name := "firstLike", desc := "(II)I" } : Jvm.MethodName)) ∈ lw_all := lw_g (lw_at lw_m9 143 rfl) rfl
theorem q2160 : (Jvm.Cond.code ({ cls := "LogCompactorModel", name := "firstLike", desc := "(II)I" } : Jvm.MethodName) prog_17_method_53_code (4 : Nat) (Option.some Jvm.ClassFile.FieldType.int)) ∈ lw_all := lw_g (lw_at lw_m9 144 rfl) rfl
theorem q2161 : (Jvm.Cond.methodLink "LogCompactorModel" (201 : Nat) ({ cls := "LogCompactorModel", name := "runs", desc := "(IZ)I" } : Jvm.MethodName)) ∈ lw_all := lw_g (lw_at lw_m9 145 rfl) rfl
theorem q2162 : (Jvm.Cond.privateMethod ({ cls := "LogCompactorModel", name := "runs", desc := "(IZ)I" } : Jvm.MethodName)) ∈ lw_tbl := lw_at lw_m9 146 rfl
theorem q2163 : (Jvm.Cond.instanceMethod ({ cls := "LogCompactorModel", name := "runs", desc := "(IZ)I" } : Jvm.MethodName)) ∈ lw_all := lw_g (lw_at lw_m9 147 rfl) rfl
theorem q2164 : (Jvm.Cond.code ({ cls := "LogCompactorModel", name := "runs", desc := "(IZ)I" } : Jvm.MethodName) prog_17_method_56_code (6 : Nat) (Option.some Jvm.ClassFile.FieldType.int)) ∈ lw_all := lw_g (lw_at lw_m9 148 rfl) rfl
theorem q2165 : (Jvm.Cond.methodLink "LogCompactorModel" (204 : Nat) ({ cls := "LogCompactorModel", name := "differences", desc := "(I)I" } : Jvm.MethodName)) ∈ lw_all := lw_g (lw_at lw_m9 149 rfl) rfl
theorem q2166 : (Jvm.Cond.privateMethod ({ cls := "LogCompactorModel", name := "differences", desc := "(I)I" } : Jvm.MethodName)) ∈ lw_tbl := lw_at lw_m9 150 rfl
theorem q2167 : (Jvm.Cond.instanceMethod ({ cls := "LogCompactorModel", name := "differences", desc := "(I)I" } : Jvm.MethodName)) ∈ lw_all := lw_g (lw_at lw_m9 151 rfl) rfl
theorem q2168 : (Jvm.Cond.code ({ cls := "LogCompactorModel", name := "differences", desc := "(I)I" } : Jvm.MethodName) prog_17_method_57_code (5 : Nat) (Option.some Jvm.ClassFile.FieldType.int)) ∈ lw_all := lw_g (lw_at lw_m9 152 rfl) rfl
theorem q2169 : (Jvm.Cond.methodLink "LogCompactorModel" (188 : Nat) ({ cls := "LogCompactorModel", name := "numberOf", desc := "(II)I" } : Jvm.MethodName)) ∈ lw_all := lw_g (lw_at lw_m9 153 rfl) rfl
theorem q2170 : (Jvm.Cond.privateMethod ({ cls := "LogCompactorModel", name := "numberOf", desc := "(II)I" } : Jvm.MethodName)) ∈ lw_tbl := lw_at lw_m9 154 rfl
theorem q2171 : (Jvm.Cond.instanceMethod ({ cls := "LogCompactorModel", name := "numberOf", desc := "(II)I" } : Jvm.MethodName)) ∈ lw_all := lw_g (lw_at lw_m9 155 rfl) rfl
theorem q2172 : (Jvm.Cond.code ({ cls := "LogCompactorModel", name := "numberOf", desc := "(II)I" } : Jvm.MethodName) prog_17_method_17_code (6 : Nat) (Option.some Jvm.ClassFile.FieldType.int)) ∈ lw_all := lw_g (lw_at lw_m9 156 rfl) rfl
theorem q2173 : (Jvm.Cond.methodLink "LogCompactorModel" (191 : Nat) ({ cls := "LogCompactorModel", name := "digits", desc := "(I)I" } : Jvm.MethodName)) ∈ lw_all := lw_g (lw_at lw_m9 157 rfl) rfl
theorem q2174 : (Jvm.Cond.static ({ cls := "LogCompactorModel", name := "digits", desc := "(I)I" } : Jvm.MethodName)) ∈ lw_all := lw_g (lw_at lw_m9 158 rfl) rfl
theorem q2175 : (Jvm.Cond.code ({ cls := "LogCompactorModel", name := "digits", desc := "(I)I" } : Jvm.MethodName) prog_17_method_54_code (3 : Nat) (Option.some Jvm.ClassFile.FieldType.int)) ∈ lw_all := lw_g (lw_at lw_m9 159 rfl) rfl
theorem q2177 : (Jvm.Cond.instanceMethod ({ cls := "LogCompactorModel", name := "column", desc := "(III)I" } : Jvm.MethodName)) ∈ lw_all := lw_g (lw_at lw_m9 161 rfl) rfl
theorem q2178 : (Jvm.Cond.selects "LogCompactorModel" ({ cls := "LogCompactorModel", name := "column", desc := "(III)I" } : Jvm.MethodName) ({ cls := "LogCompactorModel", name := "column", desc := "(III)I" } : Jvm.MethodName)) ∈ lw_all := lw_g (lw_at lw_m9 162 rfl) rfl
theorem q2179 : (Jvm.Cond.code ({ cls := "LogCompactorModel", name := "column", desc := "(III)I" } : Jvm.MethodName) prog_17_method_63_code (7 : Nat) (Option.some Jvm.ClassFile.FieldType.int)) ∈ lw_all := lw_g (lw_at lw_m9 163 rfl) rfl
theorem q2180 : (Jvm.Cond.methodLink "LogCompactorModel" (223 : Nat) ({ cls := "LogCompactorModel", name := "isColumn", desc := "(II)Z" } : Jvm.MethodName)) ∈ lw_all := lw_g (lw_at lw_m9 164 rfl) rfl
theorem q2181 : (Jvm.Cond.privateMethod ({ cls := "LogCompactorModel", name := "isColumn", desc := "(II)Z" } : Jvm.MethodName)) ∈ lw_tbl := lw_at lw_m9 165 rfl
theorem q2182 : (Jvm.Cond.instanceMethod ({ cls := "LogCompactorModel", name := "isColumn", desc := "(II)Z" } : Jvm.MethodName)) ∈ lw_all := lw_g (lw_at lw_m9 166 rfl) rfl
theorem q2183 : (Jvm.Cond.code ({ cls := "LogCompactorModel", name := "isColumn", desc := "(II)Z" } : Jvm.MethodName) prog_17_method_51_code (3 : Nat) (Option.some Jvm.ClassFile.FieldType.boolean)) ∈ lw_all := lw_g (lw_at lw_m9 167 rfl) rfl
theorem q2184 : (Jvm.Cond.methodLink "LogCompactorModel" (179 : Nat) ({ cls := "LogCompactorModel", name := "tokenOf", desc := "(II)I" } : Jvm.MethodName)) ∈ lw_all := lw_g (lw_at lw_m9 168 rfl) rfl
theorem q2185 : (Jvm.Cond.privateMethod ({ cls := "LogCompactorModel", name := "tokenOf", desc := "(II)I" } : Jvm.MethodName)) ∈ lw_tbl := lw_at lw_m9 169 rfl
theorem q2186 : (Jvm.Cond.instanceMethod ({ cls := "LogCompactorModel", name := "tokenOf", desc := "(II)I" } : Jvm.MethodName)) ∈ lw_all := lw_g (lw_at lw_m9 170 rfl) rfl
theorem q2187 : (Jvm.Cond.code ({ cls := "LogCompactorModel", name := "tokenOf", desc := "(II)I" } : Jvm.MethodName) prog_17_method_50_code (5 : Nat) (Option.some Jvm.ClassFile.FieldType.int)) ∈ lw_all := lw_g (lw_at lw_m9 171 rfl) rfl
theorem q2189 : (Jvm.Cond.instanceMethod ({ cls := "LogCompactorModel", name := "cost", desc := "(III)I" } : Jvm.MethodName)) ∈ lw_all := lw_g (lw_at lw_m9 173 rfl) rfl
theorem q2190 : (Jvm.Cond.selects "LogCompactorModel" ({ cls := "LogCompactorModel", name := "cost", desc := "(III)I" } : Jvm.MethodName) ({ cls := "LogCompactorModel", name := "cost", desc := "(III)I" } : Jvm.MethodName)) ∈ lw_all := lw_g (lw_at lw_m9 174 rfl) rfl
theorem q2191 : (Jvm.Cond.code ({ cls := "LogCompactorModel", name := "cost", desc := "(III)I" } : Jvm.MethodName) prog_17_method_64_code (4 : Nat) (Option.some Jvm.ClassFile.FieldType.int)) ∈ lw_all := lw_g (lw_at lw_m9 175 rfl) rfl
theorem q2193 : (Jvm.Cond.instanceMethod ({ cls := "LogCompactorModel", name := "code", desc := "(III)I" } : Jvm.MethodName)) ∈ lw_all := lw_g (lw_at lw_m9 177 rfl) rfl
theorem q2194 : (Jvm.Cond.selects "LogCompactorModel" ({ cls := "LogCompactorModel", name := "code", desc := "(III)I" } : Jvm.MethodName) ({ cls := "LogCompactorModel", name := "code", desc := "(III)I" } : Jvm.MethodName)) ∈ lw_all := lw_g (lw_at lw_m9 178 rfl) rfl
theorem q2195 : (Jvm.Cond.code ({ cls := "LogCompactorModel", name := "code", desc := "(III)I" } : Jvm.MethodName) prog_17_method_65_code (8 : Nat) (Option.some Jvm.ClassFile.FieldType.int)) ∈ lw_all := lw_g (lw_at lw_m9 179 rfl) rfl
theorem q2197 : (Jvm.Cond.instanceMethod ({ cls := "LogCompactorModel", name := "value", desc := "(III)I" } : Jvm.MethodName)) ∈ lw_all := lw_g (lw_at lw_m9 181 rfl) rfl
theorem q2198 : (Jvm.Cond.selects "LogCompactorModel" ({ cls := "LogCompactorModel", name := "value", desc := "(III)I" } : Jvm.MethodName) ({ cls := "LogCompactorModel", name := "value", desc := "(III)I" } : Jvm.MethodName)) ∈ lw_all := lw_g (lw_at lw_m9 182 rfl) rfl
theorem q2199 : (Jvm.Cond.code ({ cls := "LogCompactorModel", name := "value", desc := "(III)I" } : Jvm.MethodName) prog_17_method_66_code (6 : Nat) (Option.some Jvm.ClassFile.FieldType.int)) ∈ lw_all := lw_g (lw_at lw_m9 183 rfl) rfl
theorem q2201 : (Jvm.Cond.instanceMethod ({ cls := "LogCompactorModel", name := "sum", desc := "(II)J" } : Jvm.MethodName)) ∈ lw_all := lw_g (lw_at lw_m9 185 rfl) rfl
theorem q2202 : (Jvm.Cond.selects "LogCompactorModel" ({ cls := "LogCompactorModel", name := "sum", desc := "(II)J" } : Jvm.MethodName) ({ cls := "LogCompactorModel", name := "sum", desc := "(II)J" } : Jvm.MethodName)) ∈ lw_all := lw_g (lw_at lw_m9 186 rfl) rfl
theorem q2203 : (Jvm.Cond.code ({ cls := "LogCompactorModel", name := "sum", desc := "(II)J" } : Jvm.MethodName) prog_17_method_67_code (7 : Nat) (Option.some Jvm.ClassFile.FieldType.long)) ∈ lw_all := lw_g (lw_at lw_m9 187 rfl) rfl
theorem q2205 : (Jvm.Cond.instanceMethod ({ cls := "LogCompactorModel", name := "ratio", desc := "()D" } : Jvm.MethodName)) ∈ lw_all := lw_g (lw_at lw_m9 189 rfl) rfl
theorem q2206 : (Jvm.Cond.selects "LogCompactorModel" ({ cls := "LogCompactorModel", name := "ratio", desc := "()D" } : Jvm.MethodName) ({ cls := "LogCompactorModel", name := "ratio", desc := "()D" } : Jvm.MethodName)) ∈ lw_all := lw_g (lw_at lw_m9 190 rfl) rfl
theorem q2207 : (Jvm.Cond.code ({ cls := "LogCompactorModel", name := "ratio", desc := "()D" } : Jvm.MethodName) prog_17_method_68_code (1 : Nat) (Option.some Jvm.ClassFile.FieldType.double)) ∈ lw_all := lw_g (lw_at lw_m9 191 rfl) rfl
theorem q2209 : (Jvm.Cond.instanceMethod ({ cls := "LogCompactorModel", name := "merge", desc := "(II)I" } : Jvm.MethodName)) ∈ lw_all := lw_g (lw_at lw_m9 193 rfl) rfl
theorem q2210 : (Jvm.Cond.selects "LogCompactorModel" ({ cls := "LogCompactorModel", name := "merge", desc := "(II)I" } : Jvm.MethodName) ({ cls := "LogCompactorModel", name := "merge", desc := "(II)I" } : Jvm.MethodName)) ∈ lw_all := lw_g (lw_at lw_m9 194 rfl) rfl
theorem q2211 : (Jvm.Cond.code ({ cls := "LogCompactorModel", name := "merge", desc := "(II)I" } : Jvm.MethodName) prog_17_method_70_code (5 : Nat) (Option.some Jvm.ClassFile.FieldType.int)) ∈ lw_all := lw_g (lw_at lw_m9 195 rfl) rfl
theorem q2212 : (Jvm.Cond.methodLink "LogCompactorModel" (226 : Nat) ({ cls := "java/lang/Math", name := "min", desc := "(II)I" } : Jvm.MethodName)) ∈ lw_all := lw_g (lw_at lw_m9 196 rfl) rfl
theorem q2213 : (Jvm.Cond.methodLink "LogCompactorModel" (231 : Nat) ({ cls := "java/lang/Math", name := "max", desc := "(II)I" } : Jvm.MethodName)) ∈ lw_all := lw_g (lw_at lw_m9 197 rfl) rfl
theorem q2214 : (Jvm.Cond.methodLink "LogCompactorModel" (234 : Nat) ({ cls := "LogCompactorModel", name := "merges", desc := "(II)V" } : Jvm.MethodName)) ∈ lw_all := lw_g (lw_at lw_m9 198 rfl) rfl
theorem q2215 : (Jvm.Cond.privateMethod ({ cls := "LogCompactorModel", name := "merges", desc := "(II)V" } : Jvm.MethodName)) ∈ lw_tbl := lw_at lw_m9 199 rfl
theorem q2216 : (Jvm.Cond.instanceMethod ({ cls := "LogCompactorModel", name := "merges", desc := "(II)V" } : Jvm.MethodName)) ∈ lw_all := lw_g (lw_at lw_m9 200 rfl) rfl
theorem q2217 : (Jvm.Cond.code ({ cls := "LogCompactorModel", name := "merges", desc := "(II)V" } : Jvm.MethodName) prog_17_method_69_code (6 : Nat) (Option.none : Option Jvm.ClassFile.FieldType)) ∈ lw_all := lw_g (lw_at lw_m9 201 rfl) rfl
theorem q2219 : (Jvm.Cond.instanceMethod ({ cls := "LogCompactorModel", name := "split", desc := "(II)I" } : Jvm.MethodName)) ∈ lw_all := lw_g (lw_at lw_m9 203 rfl) rfl
theorem q2220 : (Jvm.Cond.selects "LogCompactorModel" ({ cls := "LogCompactorModel", name := "split", desc := "(II)I" } : Jvm.MethodName) ({ cls := "LogCompactorModel", name := "split", desc := "(II)I" } : Jvm.MethodName)) ∈ lw_all := lw_g (lw_at lw_m9 204 rfl) rfl
theorem q2221 : (Jvm.Cond.code ({ cls := "LogCompactorModel", name := "split", desc := "(II)I" } : Jvm.MethodName) prog_17_method_72_code (7 : Nat) (Option.some Jvm.ClassFile.FieldType.int)) ∈ lw_all := lw_g (lw_at lw_m9 205 rfl) rfl
theorem q2222 : (Jvm.Cond.methodLink "LogCompactorModel" (237 : Nat) ({ cls := "LogCompactorModel", name := "slotsAnew", desc := "(I)V" } : Jvm.MethodName)) ∈ lw_all := lw_g (lw_at lw_m9 206 rfl) rfl
theorem q2223 : (Jvm.Cond.privateMethod ({ cls := "LogCompactorModel", name := "slotsAnew", desc := "(I)V" } : Jvm.MethodName)) ∈ lw_tbl := lw_at lw_m9 207 rfl
theorem q2224 : (Jvm.Cond.instanceMethod ({ cls := "LogCompactorModel", name := "slotsAnew", desc := "(I)V" } : Jvm.MethodName)) ∈ lw_all := lw_g (lw_at lw_m9 208 rfl) rfl
theorem q2225 : (Jvm.Cond.code ({ cls := "LogCompactorModel", name := "slotsAnew", desc := "(I)V" } : Jvm.MethodName) prog_17_method_71_code (5 : Nat) (Option.none : Option Jvm.ClassFile.FieldType)) ∈ lw_all := lw_g (lw_at lw_m9 209 rfl) rfl
theorem q2227 : (Jvm.Cond.instanceMethod ({ cls := "LogCompactorModel", name := "gain", desc := "(II)I" } : Jvm.MethodName)) ∈ lw_all := lw_g (lw_at lw_m9 211 rfl) rfl
theorem q2228 : (Jvm.Cond.selects "LogCompactorModel" ({ cls := "LogCompactorModel", name := "gain", desc := "(II)I" } : Jvm.MethodName) ({ cls := "LogCompactorModel", name := "gain", desc := "(II)I" } : Jvm.MethodName)) ∈ lw_all := lw_g (lw_at lw_m9 212 rfl) rfl
theorem q2229 : (Jvm.Cond.code ({ cls := "LogCompactorModel", name := "gain", desc := "(II)I" } : Jvm.MethodName) prog_17_method_74_code (3 : Nat) (Option.some Jvm.ClassFile.FieldType.int)) ∈ lw_all := lw_g (lw_at lw_m9 213 rfl) rfl
theorem q2230 : (Jvm.Cond.methodLink "LogCompactorModel" (240 : Nat) ({ cls := "LogCompactorModel", name := "gainOf", desc := "(II)I" } : Jvm.MethodName)) ∈ lw_all := lw_g (lw_at lw_m9 214 rfl) rfl
theorem q2231 : (Jvm.Cond.privateMethod ({ cls := "LogCompactorModel", name := "gainOf", desc := "(II)I" } : Jvm.MethodName)) ∈ lw_tbl := lw_at lw_m9 215 rfl
theorem q2232 : (Jvm.Cond.instanceMethod ({ cls := "LogCompactorModel", name := "gainOf", desc := "(II)I" } : Jvm.MethodName)) ∈ lw_all := lw_g (lw_at lw_m9 216 rfl) rfl
theorem q2233 : (Jvm.Cond.code ({ cls := "LogCompactorModel", name := "gainOf", desc := "(II)I" } : Jvm.MethodName) prog_17_method_73_code (6 : Nat) (Option.some Jvm.ClassFile.FieldType.int)) ∈ lw_all := lw_g (lw_at lw_m9 217 rfl) rfl
theorem q2235 : (Jvm.Cond.instanceMethod ({ cls := "LogCompactorModel", name := "compact", desc := "()I" } : Jvm.MethodName)) ∈ lw_all := lw_g (lw_at lw_m9 219 rfl) rfl
theorem q2236 : (Jvm.Cond.selects "LogCompactorModel" ({ cls := "LogCompactorModel", name := "compact", desc := "()I" } : Jvm.MethodName) ({ cls := "LogCompactorModel", name := "compact", desc := "()I" } : Jvm.MethodName)) ∈ lw_all := lw_g (lw_at lw_m9 220 rfl) rfl
theorem q2237 : (Jvm.Cond.code ({ cls := "LogCompactorModel", name := "compact", desc := "()I" } : Jvm.MethodName) prog_17_method_75_code (10 : Nat) (Option.some Jvm.ClassFile.FieldType.int)) ∈ lw_all := lw_g (lw_at lw_m9 221 rfl) rfl
theorem q2239 : (Jvm.Cond.instanceMethod ({ cls := "LogCompactorModel", name := "query", desc := "()I" } : Jvm.MethodName)) ∈ lw_all := lw_g (lw_at lw_m9 223 rfl) rfl
theorem q2240 : (Jvm.Cond.selects "LogCompactorModel" ({ cls := "LogCompactorModel", name := "query", desc := "()I" } : Jvm.MethodName) ({ cls := "LogCompactorModel", name := "query", desc := "()I" } : Jvm.MethodName)) ∈ lw_all := lw_g (lw_at lw_m9 224 rfl) rfl
theorem q2241 : (Jvm.Cond.code ({ cls := "LogCompactorModel", name := "query", desc := "()I" } : Jvm.MethodName) prog_17_method_86_code (5 : Nat) (Option.some Jvm.ClassFile.FieldType.int)) ∈ lw_all := lw_g (lw_at lw_m9 225 rfl) rfl
theorem q2242 : (Jvm.Cond.methodLink "LogCompactorModel" (279 : Nat) ({ cls := "LogCompactorModel", name := "readCondition", desc := "()V" } : Jvm.MethodName)) ∈ lw_all := lw_g (lw_at lw_m9 226 rfl) rfl
theorem q2243 : (Jvm.Cond.privateMethod ({ cls := "LogCompactorModel", name := "readCondition", desc := "()V" } : Jvm.MethodName)) ∈ lw_tbl := lw_at lw_m9 227 rfl
theorem q2244 : (Jvm.Cond.instanceMethod ({ cls := "LogCompactorModel", name := "readCondition", desc := "()V" } : Jvm.MethodName)) ∈ lw_all := lw_g (lw_at lw_m9 228 rfl) rfl
theorem q2245 : (Jvm.Cond.code ({ cls := "LogCompactorModel", name := "readCondition", desc := "()V" } : Jvm.MethodName) prog_17_method_80_code (3 : Nat) (Option.none : Option Jvm.ClassFile.FieldType)) ∈ lw_all := lw_g (lw_at lw_m9 229 rfl) rfl
theorem q2246 : (Jvm.Cond.methodLink "LogCompactorModel" (246 : Nat) ({ cls := "LogCompactorModel", name := "here", desc := "()I" } : Jvm.MethodName)) ∈ lw_all := lw_g (lw_at lw_m9 230 rfl) rfl
theorem q2247 : (Jvm.Cond.privateMethod ({ cls := "LogCompactorModel", name := "here", desc := "()I" } : Jvm.MethodName)) ∈ lw_tbl := lw_at lw_m9 231 rfl
theorem q2248 : (Jvm.Cond.instanceMethod ({ cls := "LogCompactorModel", name := "here", desc := "()I" } : Jvm.MethodName)) ∈ lw_all := lw_g (lw_at lw_m9 232 rfl) rfl
theorem q2249 : (Jvm.Cond.code ({ cls := "LogCompactorModel", name := "here", desc := "()I" } : Jvm.MethodName) prog_17_method_76_code (1 : Nat) (Option.some Jvm.ClassFile.FieldType.int)) ∈ lw_all := lw_g (lw_at lw_m9 233 rfl) rfl
theorem q2250 : (Jvm.Cond.methodLink "LogCompactorModel" (252 : Nat) ({ cls := "LogCompactorModel", name := "number", desc := "()I" } : Jvm.MethodName)) ∈ lw_all := lw_g (lw_at lw_m9 234 rfl) rfl
theorem q2251 : (Jvm.Cond.privateMethod ({ cls := "LogCompactorModel", name := "number", desc := "()I" } : Jvm.MethodName)) ∈ lw_tbl := lw_at lw_m9 235 rfl
theorem q2252 : (Jvm.Cond.instanceMethod ({ cls := "LogCompactorModel", name := "number", desc := "()I" } : Jvm.MethodName)) ∈ lw_all := lw_g (lw_at lw_m9 236 rfl) rfl
theorem q2253 : (Jvm.Cond.code ({ cls := "LogCompactorModel", name := "number", desc := "()I" } : Jvm.MethodName) prog_17_method_77_code (4 : Nat) (Option.some Jvm.ClassFile.FieldType.int)) ∈ lw_all := lw_g (lw_at lw_m9 237 rfl) rfl
theorem q2254 : (Jvm.Cond.methodLink "LogCompactorModel" (258 : Nat) ({ cls := "LogCompactorModel", name := "readWord", desc := "(I)V" } : Jvm.MethodName)) ∈ lw_all := lw_g (lw_at lw_m9 238 rfl) rfl
theorem q2255 : (Jvm.Cond.privateMethod ({ cls := "LogCompactorModel", name := "readWord", desc := "(I)V" } : Jvm.MethodName)) ∈ lw_tbl := lw_at lw_m9 239 rfl
theorem q2256 : (Jvm.Cond.instanceMethod ({ cls := "LogCompactorModel", name := "readWord", desc := "(I)V" } : Jvm.MethodName)) ∈ lw_all := lw_g (lw_at lw_m10 0 rfl) rfl
theorem q2257 : (Jvm.Cond.code ({ cls := "LogCompactorModel", name := "readWord", desc := "(I)V" } : Jvm.MethodName) prog_17_method_78_code (2 : Nat) (Option.none : Option Jvm.ClassFile.FieldType)) ∈ lw_all := lw_g (lw_at lw_m10 1 rfl) rfl
theorem q2258 : (Jvm.Cond.methodLink "LogCompactorModel" (261 : Nat) ({ cls := "LogCompactorModel", name := "readColumn", desc := "(I)V" } : Jvm.MethodName)) ∈ lw_all := lw_g (lw_at lw_m10 2 rfl) rfl
theorem q2259 : (Jvm.Cond.privateMethod ({ cls := "LogCompactorModel", name := "readColumn", desc := "(I)V" } : Jvm.MethodName)) ∈ lw_tbl := lw_at lw_m10 3 rfl
theorem q2260 : (Jvm.Cond.instanceMethod ({ cls := "LogCompactorModel", name := "readColumn", desc := "(I)V" } : Jvm.MethodName)) ∈ lw_all := lw_g (lw_at lw_m10 4 rfl) rfl
theorem q2261 : (Jvm.Cond.code ({ cls := "LogCompactorModel", name := "readColumn", desc := "(I)V" } : Jvm.MethodName) prog_17_method_79_code (3 : Nat) (Option.none : Option Jvm.ClassFile.FieldType)) ∈ lw_all := lw_g (lw_at lw_m10 5 rfl) rfl
theorem q2262 : (Jvm.Cond.methodLink "LogCompactorModel" (285 : Nat) ({ cls := "LogCompactorModel", name := "hits", desc := "()I" } : Jvm.MethodName)) ∈ lw_all := lw_g (lw_at lw_m10 6 rfl) rfl
theorem q2263 : (Jvm.Cond.privateMethod ({ cls := "LogCompactorModel", name := "hits", desc := "()I" } : Jvm.MethodName)) ∈ lw_tbl := lw_at lw_m10 7 rfl
theorem q2264 : (Jvm.Cond.instanceMethod ({ cls := "LogCompactorModel", name := "hits", desc := "()I" } : Jvm.MethodName)) ∈ lw_all := lw_g (lw_at lw_m10 8 rfl) rfl
theorem q2265 : (Jvm.Cond.code ({ cls := "LogCompactorModel", name := "hits", desc := "()I" } : Jvm.MethodName) prog_17_method_85_code (3 : Nat) (Option.some Jvm.ClassFile.FieldType.int)) ∈ lw_all := lw_g (lw_at lw_m10 9 rfl) rfl
theorem q2266 : (Jvm.Cond.methodLink "LogCompactorModel" (276 : Nat) ({ cls := "LogCompactorModel", name := "isHit", desc := "(II)Z" } : Jvm.MethodName)) ∈ lw_all := lw_g (lw_at lw_m10 10 rfl) rfl
theorem q2267 : (Jvm.Cond.privateMethod ({ cls := "LogCompactorModel", name := "isHit", desc := "(II)Z" } : Jvm.MethodName)) ∈ lw_tbl := lw_at lw_m10 11 rfl
theorem q2268 : (Jvm.Cond.instanceMethod ({ cls := "LogCompactorModel", name := "isHit", desc := "(II)Z" } : Jvm.MethodName)) ∈ lw_all := lw_g (lw_at lw_m10 12 rfl) rfl
theorem q2269 : (Jvm.Cond.code ({ cls := "LogCompactorModel", name := "isHit", desc := "(II)Z" } : Jvm.MethodName) prog_17_method_84_code (5 : Nat) (Option.some Jvm.ClassFile.FieldType.boolean)) ∈ lw_all := lw_g (lw_at lw_m10 13 rfl) rfl
theorem q2270 : (Jvm.Cond.methodLink "LogCompactorModel" (273 : Nat) ({ cls := "LogCompactorModel", name := "fulfils", desc := "(II)Z" } : Jvm.MethodName)) ∈ lw_all := lw_g (lw_at lw_m10 14 rfl) rfl
theorem q2271 : (Jvm.Cond.privateMethod ({ cls := "LogCompactorModel", name := "fulfils", desc := "(II)Z" } : Jvm.MethodName)) ∈ lw_tbl := lw_at lw_m10 15 rfl
theorem q2272 : (Jvm.Cond.instanceMethod ({ cls := "LogCompactorModel", name := "fulfils", desc := "(II)Z" } : Jvm.MethodName)) ∈ lw_all := lw_g (lw_at lw_m10 16 rfl) rfl
theorem q2273 : (Jvm.Cond.code ({ cls := "LogCompactorModel", name := "fulfils", desc := "(II)Z" } : Jvm.MethodName) prog_17_method_83_code (6 : Nat) (Option.some Jvm.ClassFile.FieldType.boolean)) ∈ lw_all := lw_g (lw_at lw_m10 17 rfl) rfl
theorem q2274 : (Jvm.Cond.methodLink "LogCompactorModel" (264 : Nat) ({ cls := "LogCompactorModel", name := "hasWord", desc := "(II)Z" } : Jvm.MethodName)) ∈ lw_all := lw_g (lw_at lw_m10 18 rfl) rfl
theorem q2275 : (Jvm.Cond.privateMethod ({ cls := "LogCompactorModel", name := "hasWord", desc := "(II)Z" } : Jvm.MethodName)) ∈ lw_tbl := lw_at lw_m10 19 rfl
theorem q2276 : (Jvm.Cond.instanceMethod ({ cls := "LogCompactorModel", name := "hasWord", desc := "(II)Z" } : Jvm.MethodName)) ∈ lw_all := lw_g (lw_at lw_m10 20 rfl) rfl
theorem q2277 : (Jvm.Cond.code ({ cls := "LogCompactorModel", name := "hasWord", desc := "(II)Z" } : Jvm.MethodName) prog_17_method_81_code (7 : Nat) (Option.some Jvm.ClassFile.FieldType.boolean)) ∈ lw_all := lw_g (lw_at lw_m10 21 rfl) rfl
theorem q2278 : (Jvm.Cond.methodLink "LogCompactorModel" (267 : Nat) ({ cls := "LogCompactorModel", name := "compares", desc := "(II)Z" } : Jvm.MethodName)) ∈ lw_all := lw_g (lw_at lw_m10 22 rfl) rfl
theorem q2279 : (Jvm.Cond.privateMethod ({ cls := "LogCompactorModel", name := "compares", desc := "(II)Z" } : Jvm.MethodName)) ∈ lw_tbl := lw_at lw_m10 23 rfl
theorem q2280 : (Jvm.Cond.instanceMethod ({ cls := "LogCompactorModel", name := "compares", desc := "(II)Z" } : Jvm.MethodName)) ∈ lw_all := lw_g (lw_at lw_m10 24 rfl) rfl
theorem q2281 : (Jvm.Cond.code ({ cls := "LogCompactorModel", name := "compares", desc := "(II)Z" } : Jvm.MethodName) prog_17_method_82_code (7 : Nat) (Option.some Jvm.ClassFile.FieldType.boolean)) ∈ lw_all := lw_g (lw_at lw_m10 25 rfl) rfl
theorem q2283 : (Jvm.Cond.instanceMethod ({ cls := "LogCompactorModel", name := "hit", desc := "(I)I" } : Jvm.MethodName)) ∈ lw_all := lw_g (lw_at lw_m10 27 rfl) rfl
theorem q2284 : (Jvm.Cond.selects "LogCompactorModel" ({ cls := "LogCompactorModel", name := "hit", desc := "(I)I" } : Jvm.MethodName) ({ cls := "LogCompactorModel", name := "hit", desc := "(I)I" } : Jvm.MethodName)) ∈ lw_all := lw_g (lw_at lw_m10 28 rfl) rfl
theorem q2285 : (Jvm.Cond.code ({ cls := "LogCompactorModel", name := "hit", desc := "(I)I" } : Jvm.MethodName) prog_17_method_87_code (4 : Nat) (Option.some Jvm.ClassFile.FieldType.int)) ∈ lw_all := lw_g (lw_at lw_m10 29 rfl) rfl
theorem q2287 : (Jvm.Cond.instanceMethod ({ cls := "LogCompactorModel", name := "excluded", desc := "(I)I" } : Jvm.MethodName)) ∈ lw_all := lw_g (lw_at lw_m10 31 rfl) rfl
theorem q2288 : (Jvm.Cond.selects "LogCompactorModel" ({ cls := "LogCompactorModel", name := "excluded", desc := "(I)I" } : Jvm.MethodName) ({ cls := "LogCompactorModel", name := "excluded", desc := "(I)I" } : Jvm.MethodName)) ∈ lw_all := lw_g (lw_at lw_m10 32 rfl) rfl
theorem q2289 : (Jvm.Cond.code ({ cls := "LogCompactorModel", name := "excluded", desc := "(I)I" } : Jvm.MethodName) prog_17_method_88_code (4 : Nat) (Option.some Jvm.ClassFile.FieldType.int)) ∈ lw_all := lw_g (lw_at lw_m10 33 rfl) rfl
theorem q2291 : (Jvm.Cond.instanceMethod ({ cls := "LogCompactorModel", name := "undo", desc := "()I" } : Jvm.MethodName)) ∈ lw_all := lw_g (lw_at lw_m10 35 rfl) rfl
theorem q2292 : (Jvm.Cond.selects "LogCompactorModel" ({ cls := "LogCompactorModel", name := "undo", desc := "()I" } : Jvm.MethodName) ({ cls := "LogCompactorModel", name := "undo", desc := "()I" } : Jvm.MethodName)) ∈ lw_all := lw_g (lw_at lw_m10 36 rfl) rfl
theorem q2293 : (Jvm.Cond.code ({ cls := "LogCompactorModel", name := "undo", desc := "()I" } : Jvm.MethodName) prog_17_method_89_code (2 : Nat) (Option.some Jvm.ClassFile.FieldType.int)) ∈ lw_all := lw_g (lw_at lw_m10 37 rfl) rfl
theorem q2294 : (Jvm.Cond.methodLink "LogCompactorModel" (288 : Nat) ({ cls := "LogCompactorModel", name := "layAll", desc := "()V" } : Jvm.MethodName)) ∈ lw_all := lw_g (lw_at lw_m10 38 rfl) rfl
theorem q2295 : (Jvm.Cond.privateMethod ({ cls := "LogCompactorModel", name := "layAll", desc := "()V" } : Jvm.MethodName)) ∈ lw_tbl := lw_at lw_m10 39 rfl
theorem q2296 : (Jvm.Cond.instanceMethod ({ cls := "LogCompactorModel", name := "layAll", desc := "()V" } : Jvm.MethodName)) ∈ lw_all := lw_g (lw_at lw_m10 40 rfl) rfl
theorem q2297 : (Jvm.Cond.code ({ cls := "LogCompactorModel", name := "layAll", desc := "()V" } : Jvm.MethodName) prog_17_method_9_code (2 : Nat) (Option.none : Option Jvm.ClassFile.FieldType)) ∈ lw_all := lw_g (lw_at lw_m10 41 rfl) rfl
theorem q2299 : (Jvm.Cond.instanceMethod ({ cls := "LogCompactorModel", name := "save", desc := "()I" } : Jvm.MethodName)) ∈ lw_all := lw_g (lw_at lw_m10 43 rfl) rfl
theorem q2300 : (Jvm.Cond.selects "LogCompactorModel" ({ cls := "LogCompactorModel", name := "save", desc := "()I" } : Jvm.MethodName) ({ cls := "LogCompactorModel", name := "save", desc := "()I" } : Jvm.MethodName)) ∈ lw_all := lw_g (lw_at lw_m10 44 rfl) rfl
theorem q2301 : (Jvm.Cond.code ({ cls := "LogCompactorModel", name := "save", desc := "()I" } : Jvm.MethodName) prog_17_method_90_code (2 : Nat) (Option.some Jvm.ClassFile.FieldType.int)) ∈ lw_all := lw_g (lw_at lw_m10 45 rfl) rfl
theorem q2303 : (Jvm.Cond.instanceMethod ({ cls := "LogCompactorModel", name := "restore", desc := "()I" } : Jvm.MethodName)) ∈ lw_all := lw_g (lw_at lw_m10 47 rfl) rfl
theorem q2304 : (Jvm.Cond.selects "LogCompactorModel" ({ cls := "LogCompactorModel", name := "restore", desc := "()I" } : Jvm.MethodName) ({ cls := "LogCompactorModel", name := "restore", desc := "()I" } : Jvm.MethodName)) ∈ lw_all := lw_g (lw_at lw_m10 48 rfl) rfl
theorem q2305 : (Jvm.Cond.code ({ cls := "LogCompactorModel", name := "restore", desc := "()I" } : Jvm.MethodName) prog_17_method_91_code (2 : Nat) (Option.some Jvm.ClassFile.FieldType.int)) ∈ lw_all := lw_g (lw_at lw_m10 49 rfl) rfl
theorem q2330 : (Jvm.Cond.castable "LogCompactorModel" "java/lang/Object") ∈ lw_tbl := lw_at lw_m10 74 rfl
theorem in_X4 : ∀ w ∈ wsX40, w ∈ lw_all := lw_in wsX40 [1891, 1893, 1895, 1897, 1899, 1901, 1903, 1905, 1907, 1909, 1911, 1913, 1915, 1917, 1919, 1921, 1923, 1925, 1927, 1929, 1931, 1933, 1935, 1937, 1939, 1941, 1943] (by decide +kernel) (by decide +kernel)

