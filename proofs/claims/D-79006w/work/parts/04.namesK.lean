/-! java/lang/String -/
set_option maxRecDepth 100000
def RJ13 : String := "java/lang/String"
def TJ13 : u_T := fun k => match k with
  | 0 => ("java/lang/String", "value", "[B", true)
  | 1 => ("java/lang/String", "coder", "B", true)
  | 2 => ("java/lang/String", "hash", "I", false)
  | _ => ("java/lang/String", "hashIsZero", "Z", false)
def tyJ13 : Nat → FieldType := fun k => match k with
  | 0 => .array .byte
  | 1 => .byte
  | 2 => .int
  | _ => .boolean
abbrev wsJ130 : List Cond := u_ws RJ13 TJ13 4
theorem nmJ13 : ∀ a, a < 4 → ∀ b, b < 4 → a ≠ b → (TJ13 a).2.1 ≠ (TJ13 b).2.1 := by decide +kernel
theorem tyJ13_ok : ∀ k, k < 4 → parseFieldDescriptor (TJ13 k).2.2.1 = some (tyJ13 k) := by decide +kernel
abbrev cJ13_length : ByteArray := prog_36_method_54_code
def yJ13_length : MethodName := ⟨RJ13, "length", "()I"⟩
def dkwJ13_length_0 : List UInt8 := [42, 180, 0, 9, 190, 42, 182, 1, 79, 122, 172]
abbrev dktJ13_length_0 : List UInt8 := dkwJ13_length_0 ++ []
theorem dksJ13_length_0 : cJ13_length.data.toList.drop 0 = dktJ13_length_0 := by decide +kernel
theorem dJ13_length_0 : decode cJ13_length 0 = .ok (.aload_n 0, 1) := dk_42 (dk_at dksJ13_length_0 0 rfl rfl)
theorem dJ13_length_1 : decode cJ13_length 1 = .ok (.getfield 9, 3) := dk_180 0 9 (dk_at dksJ13_length_0 1 rfl rfl)
theorem dJ13_length_4 : decode cJ13_length 4 = .ok (.arraylength, 1) := dk_190 (dk_at dksJ13_length_0 4 rfl rfl)
theorem dJ13_length_5 : decode cJ13_length 5 = .ok (.aload_n 0, 1) := dk_42 (dk_at dksJ13_length_0 5 rfl rfl)
theorem dJ13_length_6 : decode cJ13_length 6 = .ok (.invokevirtual 335, 3) := dk_182 1 79 (dk_at dksJ13_length_0 6 rfl rfl)
theorem dJ13_length_9 : decode cJ13_length 9 = .ok (.ishr, 1) := dk_122 (dk_at dksJ13_length_0 9 rfl rfl)
theorem dJ13_length_10 : decode cJ13_length 10 = .ok (.ireturn, 1) := dk_172 (dk_at dksJ13_length_0 10 rfl rfl)
abbrev cJ13_coder : ByteArray := prog_36_method_152_code
def yJ13_coder : MethodName := ⟨RJ13, "coder", "()B"⟩
def dkwJ13_coder_0 : List UInt8 := [178, 0, 38, 153, 0, 10, 42, 180, 0, 15, 167, 0, 4, 4, 172]
abbrev dktJ13_coder_0 : List UInt8 := dkwJ13_coder_0 ++ []
theorem dksJ13_coder_0 : cJ13_coder.data.toList.drop 0 = dktJ13_coder_0 := by decide +kernel
theorem dJ13_coder_0 : decode cJ13_coder 0 = .ok (.getstatic 38, 3) := dk_178 0 38 (dk_at dksJ13_coder_0 0 rfl rfl)
theorem dJ13_coder_3 : decode cJ13_coder 3 = .ok (.ifCond .eq 10, 3) := dk_153 0 10 (dk_at dksJ13_coder_0 3 rfl rfl)
theorem dJ13_coder_6 : decode cJ13_coder 6 = .ok (.aload_n 0, 1) := dk_42 (dk_at dksJ13_coder_0 6 rfl rfl)
theorem dJ13_coder_7 : decode cJ13_coder 7 = .ok (.getfield 15, 3) := dk_180 0 15 (dk_at dksJ13_coder_0 7 rfl rfl)
theorem dJ13_coder_10 : decode cJ13_coder 10 = .ok (.goto 4, 3) := dk_167 0 4 (dk_at dksJ13_coder_0 10 rfl rfl)
theorem dJ13_coder_13 : decode cJ13_coder 13 = .ok (.iconst 1, 1) := dk_4 (dk_at dksJ13_coder_0 13 rfl rfl)
theorem dJ13_coder_14 : decode cJ13_coder 14 = .ok (.ireturn, 1) := dk_172 (dk_at dksJ13_coder_0 14 rfl rfl)
abbrev cJ13_equals : ByteArray := prog_36_method_66_code
def yJ13_equals : MethodName := ⟨RJ13, "equals", "(Ljava/lang/Object;)Z"⟩
def dkwJ13_equals_2 : List UInt8 := [184, 2, 29, 153, 0, 7, 4, 167, 0, 4, 3, 172]
abbrev dktJ13_equals_2 : List UInt8 := dkwJ13_equals_2 ++ []
def dkwJ13_equals_1 : List UInt8 := [153, 0, 14, 42, 180, 0, 15, 44, 180, 0, 15, 160, 0, 21, 42, 180, 0, 9, 44, 180, 0, 9]
abbrev dktJ13_equals_1 : List UInt8 := dkwJ13_equals_1 ++ dktJ13_equals_2
def dkwJ13_equals_0 : List UInt8 := [42, 43, 166, 0, 5, 4, 172, 43, 193, 0, 10, 153, 0, 43, 43, 192, 0, 10, 77, 178, 0, 38]
abbrev dktJ13_equals_0 : List UInt8 := dkwJ13_equals_0 ++ dktJ13_equals_1
theorem dksJ13_equals_0 : cJ13_equals.data.toList.drop 0 = dktJ13_equals_0 := by decide +kernel
theorem dksJ13_equals_1 : cJ13_equals.data.toList.drop 22 = dktJ13_equals_1 := dk_seg dksJ13_equals_0 22 rfl rfl
theorem dksJ13_equals_2 : cJ13_equals.data.toList.drop 44 = dktJ13_equals_2 := dk_seg dksJ13_equals_1 22 rfl rfl
theorem dJ13_equals_0 : decode cJ13_equals 0 = .ok (.aload_n 0, 1) := dk_42 (dk_at dksJ13_equals_0 0 rfl rfl)
theorem dJ13_equals_1 : decode cJ13_equals 1 = .ok (.aload_n 1, 1) := dk_43 (dk_at dksJ13_equals_0 1 rfl rfl)
theorem dJ13_equals_2 : decode cJ13_equals 2 = .ok (.if_acmp .ne 5, 3) := dk_166 0 5 (dk_at dksJ13_equals_0 2 rfl rfl)
theorem dJ13_equals_5 : decode cJ13_equals 5 = .ok (.iconst 1, 1) := dk_4 (dk_at dksJ13_equals_0 5 rfl rfl)
theorem dJ13_equals_6 : decode cJ13_equals 6 = .ok (.ireturn, 1) := dk_172 (dk_at dksJ13_equals_0 6 rfl rfl)
theorem dJ13_equals_7 : decode cJ13_equals 7 = .ok (.aload_n 1, 1) := dk_43 (dk_at dksJ13_equals_0 7 rfl rfl)
theorem dJ13_equals_8 : decode cJ13_equals 8 = .ok (.instanceof 10, 3) := dk_193 0 10 (dk_at dksJ13_equals_0 8 rfl rfl)
theorem dJ13_equals_11 : decode cJ13_equals 11 = .ok (.ifCond .eq 43, 3) := dk_153 0 43 (dk_at dksJ13_equals_0 11 rfl rfl)
theorem dJ13_equals_14 : decode cJ13_equals 14 = .ok (.aload_n 1, 1) := dk_43 (dk_at dksJ13_equals_0 14 rfl rfl)
theorem dJ13_equals_15 : decode cJ13_equals 15 = .ok (.checkcast 10, 3) := dk_192 0 10 (dk_at dksJ13_equals_0 15 rfl rfl)
theorem dJ13_equals_18 : decode cJ13_equals 18 = .ok (.astore_n 2, 1) := dk_77 (dk_at dksJ13_equals_0 18 rfl rfl)
theorem dJ13_equals_19 : decode cJ13_equals 19 = .ok (.getstatic 38, 3) := dk_178 0 38 (dk_at dksJ13_equals_0 19 rfl rfl)
theorem dJ13_equals_22 : decode cJ13_equals 22 = .ok (.ifCond .eq 14, 3) := dk_153 0 14 (dk_at dksJ13_equals_1 0 rfl rfl)
theorem dJ13_equals_25 : decode cJ13_equals 25 = .ok (.aload_n 0, 1) := dk_42 (dk_at dksJ13_equals_1 3 rfl rfl)
theorem dJ13_equals_26 : decode cJ13_equals 26 = .ok (.getfield 15, 3) := dk_180 0 15 (dk_at dksJ13_equals_1 4 rfl rfl)
theorem dJ13_equals_29 : decode cJ13_equals 29 = .ok (.aload_n 2, 1) := dk_44 (dk_at dksJ13_equals_1 7 rfl rfl)
theorem dJ13_equals_30 : decode cJ13_equals 30 = .ok (.getfield 15, 3) := dk_180 0 15 (dk_at dksJ13_equals_1 8 rfl rfl)
theorem dJ13_equals_33 : decode cJ13_equals 33 = .ok (.if_icmp .ne 21, 3) := dk_160 0 21 (dk_at dksJ13_equals_1 11 rfl rfl)
theorem dJ13_equals_36 : decode cJ13_equals 36 = .ok (.aload_n 0, 1) := dk_42 (dk_at dksJ13_equals_1 14 rfl rfl)
theorem dJ13_equals_37 : decode cJ13_equals 37 = .ok (.getfield 9, 3) := dk_180 0 9 (dk_at dksJ13_equals_1 15 rfl rfl)
theorem dJ13_equals_40 : decode cJ13_equals 40 = .ok (.aload_n 2, 1) := dk_44 (dk_at dksJ13_equals_1 18 rfl rfl)
theorem dJ13_equals_41 : decode cJ13_equals 41 = .ok (.getfield 9, 3) := dk_180 0 9 (dk_at dksJ13_equals_1 19 rfl rfl)
theorem dJ13_equals_44 : decode cJ13_equals 44 = .ok (.invokestatic 541, 3) := dk_184 2 29 (dk_at dksJ13_equals_2 0 rfl rfl)
theorem dJ13_equals_47 : decode cJ13_equals 47 = .ok (.ifCond .eq 7, 3) := dk_153 0 7 (dk_at dksJ13_equals_2 3 rfl rfl)
theorem dJ13_equals_50 : decode cJ13_equals 50 = .ok (.iconst 1, 1) := dk_4 (dk_at dksJ13_equals_2 6 rfl rfl)
theorem dJ13_equals_51 : decode cJ13_equals 51 = .ok (.goto 4, 3) := dk_167 0 4 (dk_at dksJ13_equals_2 7 rfl rfl)
theorem dJ13_equals_54 : decode cJ13_equals 54 = .ok (.iconst 0, 1) := dk_3 (dk_at dksJ13_equals_2 10 rfl rfl)
theorem dJ13_equals_55 : decode cJ13_equals 55 = .ok (.ireturn, 1) := dk_172 (dk_at dksJ13_equals_2 11 rfl rfl)
abbrev cJ13_charAt : ByteArray := prog_36_method_56_code
def yJ13_charAt : MethodName := ⟨RJ13, "charAt", "(I)C"⟩
def dkwJ13_charAt_1 : List UInt8 := [172]
abbrev dktJ13_charAt_1 : List UInt8 := dkwJ13_charAt_1 ++ []
def dkwJ13_charAt_0 : List UInt8 := [42, 182, 1, 236, 153, 0, 12, 42, 180, 0, 9, 27, 184, 1, 239, 172, 42, 180, 0, 9, 27, 184, 1, 242]
abbrev dktJ13_charAt_0 : List UInt8 := dkwJ13_charAt_0 ++ dktJ13_charAt_1
theorem dksJ13_charAt_0 : cJ13_charAt.data.toList.drop 0 = dktJ13_charAt_0 := by decide +kernel
theorem dksJ13_charAt_1 : cJ13_charAt.data.toList.drop 24 = dktJ13_charAt_1 := dk_seg dksJ13_charAt_0 24 rfl rfl
theorem dJ13_charAt_0 : decode cJ13_charAt 0 = .ok (.aload_n 0, 1) := dk_42 (dk_at dksJ13_charAt_0 0 rfl rfl)
theorem dJ13_charAt_1 : decode cJ13_charAt 1 = .ok (.invokevirtual 492, 3) := dk_182 1 236 (dk_at dksJ13_charAt_0 1 rfl rfl)
theorem dJ13_charAt_4 : decode cJ13_charAt 4 = .ok (.ifCond .eq 12, 3) := dk_153 0 12 (dk_at dksJ13_charAt_0 4 rfl rfl)
theorem dJ13_charAt_7 : decode cJ13_charAt 7 = .ok (.aload_n 0, 1) := dk_42 (dk_at dksJ13_charAt_0 7 rfl rfl)
theorem dJ13_charAt_8 : decode cJ13_charAt 8 = .ok (.getfield 9, 3) := dk_180 0 9 (dk_at dksJ13_charAt_0 8 rfl rfl)
theorem dJ13_charAt_11 : decode cJ13_charAt 11 = .ok (.iload_n 1, 1) := dk_27 (dk_at dksJ13_charAt_0 11 rfl rfl)
theorem dJ13_charAt_12 : decode cJ13_charAt 12 = .ok (.invokestatic 495, 3) := dk_184 1 239 (dk_at dksJ13_charAt_0 12 rfl rfl)
theorem dJ13_charAt_15 : decode cJ13_charAt 15 = .ok (.ireturn, 1) := dk_172 (dk_at dksJ13_charAt_0 15 rfl rfl)
theorem dJ13_charAt_16 : decode cJ13_charAt 16 = .ok (.aload_n 0, 1) := dk_42 (dk_at dksJ13_charAt_0 16 rfl rfl)
theorem dJ13_charAt_17 : decode cJ13_charAt 17 = .ok (.getfield 9, 3) := dk_180 0 9 (dk_at dksJ13_charAt_0 17 rfl rfl)
theorem dJ13_charAt_20 : decode cJ13_charAt 20 = .ok (.iload_n 1, 1) := dk_27 (dk_at dksJ13_charAt_0 20 rfl rfl)
theorem dJ13_charAt_21 : decode cJ13_charAt 21 = .ok (.invokestatic 498, 3) := dk_184 1 242 (dk_at dksJ13_charAt_0 21 rfl rfl)
theorem dJ13_charAt_24 : decode cJ13_charAt 24 = .ok (.ireturn, 1) := dk_172 (dk_at dksJ13_charAt_1 0 rfl rfl)
abbrev cJ13_isLatin1 : ByteArray := prog_36_method_154_code
def yJ13_isLatin1 : MethodName := ⟨RJ13, "isLatin1", "()Z"⟩
def dkwJ13_isLatin1_0 : List UInt8 := [178, 0, 38, 153, 0, 14, 42, 180, 0, 15, 154, 0, 7, 4, 167, 0, 4, 3, 172]
abbrev dktJ13_isLatin1_0 : List UInt8 := dkwJ13_isLatin1_0 ++ []
theorem dksJ13_isLatin1_0 : cJ13_isLatin1.data.toList.drop 0 = dktJ13_isLatin1_0 := by decide +kernel
theorem dJ13_isLatin1_0 : decode cJ13_isLatin1 0 = .ok (.getstatic 38, 3) := dk_178 0 38 (dk_at dksJ13_isLatin1_0 0 rfl rfl)
theorem dJ13_isLatin1_3 : decode cJ13_isLatin1 3 = .ok (.ifCond .eq 14, 3) := dk_153 0 14 (dk_at dksJ13_isLatin1_0 3 rfl rfl)
theorem dJ13_isLatin1_6 : decode cJ13_isLatin1 6 = .ok (.aload_n 0, 1) := dk_42 (dk_at dksJ13_isLatin1_0 6 rfl rfl)
theorem dJ13_isLatin1_7 : decode cJ13_isLatin1 7 = .ok (.getfield 15, 3) := dk_180 0 15 (dk_at dksJ13_isLatin1_0 7 rfl rfl)
theorem dJ13_isLatin1_10 : decode cJ13_isLatin1 10 = .ok (.ifCond .ne 7, 3) := dk_154 0 7 (dk_at dksJ13_isLatin1_0 10 rfl rfl)
theorem dJ13_isLatin1_13 : decode cJ13_isLatin1 13 = .ok (.iconst 1, 1) := dk_4 (dk_at dksJ13_isLatin1_0 13 rfl rfl)
theorem dJ13_isLatin1_14 : decode cJ13_isLatin1 14 = .ok (.goto 4, 3) := dk_167 0 4 (dk_at dksJ13_isLatin1_0 14 rfl rfl)
theorem dJ13_isLatin1_17 : decode cJ13_isLatin1 17 = .ok (.iconst 0, 1) := dk_3 (dk_at dksJ13_isLatin1_0 17 rfl rfl)
theorem dJ13_isLatin1_18 : decode cJ13_isLatin1 18 = .ok (.ireturn, 1) := dk_172 (dk_at dksJ13_isLatin1_0 18 rfl rfl)
abbrev cJ13_checkIndex : ByteArray := prog_36_method_155_code
def yJ13_checkIndex : MethodName := ⟨RJ13, "checkIndex", "(II)V"⟩
def dkwJ13_checkIndex_0 : List UInt8 := [26, 27, 178, 4, 29, 184, 4, 35, 87, 177]
abbrev dktJ13_checkIndex_0 : List UInt8 := dkwJ13_checkIndex_0 ++ []
theorem dksJ13_checkIndex_0 : cJ13_checkIndex.data.toList.drop 0 = dktJ13_checkIndex_0 := by decide +kernel
theorem dJ13_checkIndex_0 : decode cJ13_checkIndex 0 = .ok (.iload_n 0, 1) := dk_26 (dk_at dksJ13_checkIndex_0 0 rfl rfl)
theorem dJ13_checkIndex_1 : decode cJ13_checkIndex 1 = .ok (.iload_n 1, 1) := dk_27 (dk_at dksJ13_checkIndex_0 1 rfl rfl)
theorem dJ13_checkIndex_2 : decode cJ13_checkIndex 2 = .ok (.getstatic 1053, 3) := dk_178 4 29 (dk_at dksJ13_checkIndex_0 2 rfl rfl)
theorem dJ13_checkIndex_5 : decode cJ13_checkIndex 5 = .ok (.invokestatic 1059, 3) := dk_184 4 35 (dk_at dksJ13_checkIndex_0 5 rfl rfl)
theorem dJ13_checkIndex_8 : decode cJ13_checkIndex 8 = .ok (.pop, 1) := dk_87 (dk_at dksJ13_checkIndex_0 8 rfl rfl)
theorem dJ13_checkIndex_9 : decode cJ13_checkIndex 9 = .ok (.return_, 1) := dk_177 (dk_at dksJ13_checkIndex_0 9 rfl rfl)
abbrev cJ13_checkBoundsBeginEnd : ByteArray := prog_36_method_158_code
def yJ13_checkBoundsBeginEnd : MethodName := ⟨RJ13, "checkBoundsBeginEnd", "(III)V"⟩
def dkwJ13_checkBoundsBeginEnd_0 : List UInt8 := [26, 27, 28, 178, 4, 29, 184, 4, 38, 87, 177]
abbrev dktJ13_checkBoundsBeginEnd_0 : List UInt8 := dkwJ13_checkBoundsBeginEnd_0 ++ []
theorem dksJ13_checkBoundsBeginEnd_0 : cJ13_checkBoundsBeginEnd.data.toList.drop 0 = dktJ13_checkBoundsBeginEnd_0 := by decide +kernel
theorem dJ13_checkBoundsBeginEnd_0 : decode cJ13_checkBoundsBeginEnd 0 = .ok (.iload_n 0, 1) := dk_26 (dk_at dksJ13_checkBoundsBeginEnd_0 0 rfl rfl)
theorem dJ13_checkBoundsBeginEnd_1 : decode cJ13_checkBoundsBeginEnd 1 = .ok (.iload_n 1, 1) := dk_27 (dk_at dksJ13_checkBoundsBeginEnd_0 1 rfl rfl)
theorem dJ13_checkBoundsBeginEnd_2 : decode cJ13_checkBoundsBeginEnd 2 = .ok (.iload_n 2, 1) := dk_28 (dk_at dksJ13_checkBoundsBeginEnd_0 2 rfl rfl)
theorem dJ13_checkBoundsBeginEnd_3 : decode cJ13_checkBoundsBeginEnd 3 = .ok (.getstatic 1053, 3) := dk_178 4 29 (dk_at dksJ13_checkBoundsBeginEnd_0 3 rfl rfl)
theorem dJ13_checkBoundsBeginEnd_6 : decode cJ13_checkBoundsBeginEnd 6 = .ok (.invokestatic 1062, 3) := dk_184 4 38 (dk_at dksJ13_checkBoundsBeginEnd_0 6 rfl rfl)
theorem dJ13_checkBoundsBeginEnd_9 : decode cJ13_checkBoundsBeginEnd 9 = .ok (.pop, 1) := dk_87 (dk_at dksJ13_checkBoundsBeginEnd_0 9 rfl rfl)
theorem dJ13_checkBoundsBeginEnd_10 : decode cJ13_checkBoundsBeginEnd 10 = .ok (.return_, 1) := dk_177 (dk_at dksJ13_checkBoundsBeginEnd_0 10 rfl rfl)
abbrev cJ13_checkBoundsOffCount : ByteArray := prog_36_method_157_code
def yJ13_checkBoundsOffCount : MethodName := ⟨RJ13, "checkBoundsOffCount", "(III)I"⟩
def dkwJ13_checkBoundsOffCount_0 : List UInt8 := [26, 27, 28, 178, 4, 29, 184, 4, 41, 172]
abbrev dktJ13_checkBoundsOffCount_0 : List UInt8 := dkwJ13_checkBoundsOffCount_0 ++ []
theorem dksJ13_checkBoundsOffCount_0 : cJ13_checkBoundsOffCount.data.toList.drop 0 = dktJ13_checkBoundsOffCount_0 := by decide +kernel
theorem dJ13_checkBoundsOffCount_0 : decode cJ13_checkBoundsOffCount 0 = .ok (.iload_n 0, 1) := dk_26 (dk_at dksJ13_checkBoundsOffCount_0 0 rfl rfl)
theorem dJ13_checkBoundsOffCount_1 : decode cJ13_checkBoundsOffCount 1 = .ok (.iload_n 1, 1) := dk_27 (dk_at dksJ13_checkBoundsOffCount_0 1 rfl rfl)
theorem dJ13_checkBoundsOffCount_2 : decode cJ13_checkBoundsOffCount 2 = .ok (.iload_n 2, 1) := dk_28 (dk_at dksJ13_checkBoundsOffCount_0 2 rfl rfl)
theorem dJ13_checkBoundsOffCount_3 : decode cJ13_checkBoundsOffCount 3 = .ok (.getstatic 1053, 3) := dk_178 4 29 (dk_at dksJ13_checkBoundsOffCount_0 3 rfl rfl)
theorem dJ13_checkBoundsOffCount_6 : decode cJ13_checkBoundsOffCount 6 = .ok (.invokestatic 1065, 3) := dk_184 4 41 (dk_at dksJ13_checkBoundsOffCount_0 6 rfl rfl)
theorem dJ13_checkBoundsOffCount_9 : decode cJ13_checkBoundsOffCount 9 = .ok (.ireturn, 1) := dk_172 (dk_at dksJ13_checkBoundsOffCount_0 9 rfl rfl)
abbrev cJ13_getBytes : ByteArray := prog_36_method_147_code
def yJ13_getBytes : MethodName := ⟨RJ13, "getBytes", "([BIB)V"⟩
def dkwJ13_getBytes_1 : List UInt8 := [184, 0, 212, 167, 0, 18, 42, 180, 0, 9, 3, 43, 28, 42, 180, 0, 9, 190, 184, 0, 106, 177]
abbrev dktJ13_getBytes_1 : List UInt8 := dkwJ13_getBytes_1 ++ []
def dkwJ13_getBytes_0 : List UInt8 := [42, 182, 1, 79, 29, 160, 0, 23, 42, 180, 0, 9, 3, 43, 28, 29, 120, 42, 180, 0, 9, 190]
abbrev dktJ13_getBytes_0 : List UInt8 := dkwJ13_getBytes_0 ++ dktJ13_getBytes_1
theorem dksJ13_getBytes_0 : cJ13_getBytes.data.toList.drop 0 = dktJ13_getBytes_0 := by decide +kernel
theorem dksJ13_getBytes_1 : cJ13_getBytes.data.toList.drop 22 = dktJ13_getBytes_1 := dk_seg dksJ13_getBytes_0 22 rfl rfl
theorem dJ13_getBytes_0 : decode cJ13_getBytes 0 = .ok (.aload_n 0, 1) := dk_42 (dk_at dksJ13_getBytes_0 0 rfl rfl)
theorem dJ13_getBytes_1 : decode cJ13_getBytes 1 = .ok (.invokevirtual 335, 3) := dk_182 1 79 (dk_at dksJ13_getBytes_0 1 rfl rfl)
theorem dJ13_getBytes_4 : decode cJ13_getBytes 4 = .ok (.iload_n 3, 1) := dk_29 (dk_at dksJ13_getBytes_0 4 rfl rfl)
theorem dJ13_getBytes_5 : decode cJ13_getBytes 5 = .ok (.if_icmp .ne 23, 3) := dk_160 0 23 (dk_at dksJ13_getBytes_0 5 rfl rfl)
theorem dJ13_getBytes_8 : decode cJ13_getBytes 8 = .ok (.aload_n 0, 1) := dk_42 (dk_at dksJ13_getBytes_0 8 rfl rfl)
theorem dJ13_getBytes_9 : decode cJ13_getBytes 9 = .ok (.getfield 9, 3) := dk_180 0 9 (dk_at dksJ13_getBytes_0 9 rfl rfl)
theorem dJ13_getBytes_12 : decode cJ13_getBytes 12 = .ok (.iconst 0, 1) := dk_3 (dk_at dksJ13_getBytes_0 12 rfl rfl)
theorem dJ13_getBytes_13 : decode cJ13_getBytes 13 = .ok (.aload_n 1, 1) := dk_43 (dk_at dksJ13_getBytes_0 13 rfl rfl)
theorem dJ13_getBytes_14 : decode cJ13_getBytes 14 = .ok (.iload_n 2, 1) := dk_28 (dk_at dksJ13_getBytes_0 14 rfl rfl)
theorem dJ13_getBytes_15 : decode cJ13_getBytes 15 = .ok (.iload_n 3, 1) := dk_29 (dk_at dksJ13_getBytes_0 15 rfl rfl)
theorem dJ13_getBytes_16 : decode cJ13_getBytes 16 = .ok (.ishl, 1) := dk_120 (dk_at dksJ13_getBytes_0 16 rfl rfl)
theorem dJ13_getBytes_17 : decode cJ13_getBytes 17 = .ok (.aload_n 0, 1) := dk_42 (dk_at dksJ13_getBytes_0 17 rfl rfl)
theorem dJ13_getBytes_18 : decode cJ13_getBytes 18 = .ok (.getfield 9, 3) := dk_180 0 9 (dk_at dksJ13_getBytes_0 18 rfl rfl)
theorem dJ13_getBytes_21 : decode cJ13_getBytes 21 = .ok (.arraylength, 1) := dk_190 (dk_at dksJ13_getBytes_0 21 rfl rfl)
theorem dJ13_getBytes_22 : decode cJ13_getBytes 22 = .ok (.invokestatic 212, 3) := dk_184 0 212 (dk_at dksJ13_getBytes_1 0 rfl rfl)
theorem dJ13_getBytes_25 : decode cJ13_getBytes 25 = .ok (.goto 18, 3) := dk_167 0 18 (dk_at dksJ13_getBytes_1 3 rfl rfl)
theorem dJ13_getBytes_28 : decode cJ13_getBytes 28 = .ok (.aload_n 0, 1) := dk_42 (dk_at dksJ13_getBytes_1 6 rfl rfl)
theorem dJ13_getBytes_29 : decode cJ13_getBytes 29 = .ok (.getfield 9, 3) := dk_180 0 9 (dk_at dksJ13_getBytes_1 7 rfl rfl)
theorem dJ13_getBytes_32 : decode cJ13_getBytes 32 = .ok (.iconst 0, 1) := dk_3 (dk_at dksJ13_getBytes_1 10 rfl rfl)
theorem dJ13_getBytes_33 : decode cJ13_getBytes 33 = .ok (.aload_n 1, 1) := dk_43 (dk_at dksJ13_getBytes_1 11 rfl rfl)
theorem dJ13_getBytes_34 : decode cJ13_getBytes 34 = .ok (.iload_n 2, 1) := dk_28 (dk_at dksJ13_getBytes_1 12 rfl rfl)
theorem dJ13_getBytes_35 : decode cJ13_getBytes 35 = .ok (.aload_n 0, 1) := dk_42 (dk_at dksJ13_getBytes_1 13 rfl rfl)
theorem dJ13_getBytes_36 : decode cJ13_getBytes 36 = .ok (.getfield 9, 3) := dk_180 0 9 (dk_at dksJ13_getBytes_1 14 rfl rfl)
theorem dJ13_getBytes_39 : decode cJ13_getBytes 39 = .ok (.arraylength, 1) := dk_190 (dk_at dksJ13_getBytes_1 17 rfl rfl)
theorem dJ13_getBytes_40 : decode cJ13_getBytes 40 = .ok (.invokestatic 106, 3) := dk_184 0 106 (dk_at dksJ13_getBytes_1 18 rfl rfl)
theorem dJ13_getBytes_43 : decode cJ13_getBytes 43 = .ok (.return_, 1) := dk_177 (dk_at dksJ13_getBytes_1 21 rfl rfl)
abbrev cJ13_init : ByteArray := prog_36_method_53_code
def yJ13_init : MethodName := ⟨RJ13, "<init>", "(Ljava/lang/StringBuilder;)V"⟩
def dkwJ13_init_0 : List UInt8 := [42, 43, 1, 183, 1, 233, 177]
abbrev dktJ13_init_0 : List UInt8 := dkwJ13_init_0 ++ []
theorem dksJ13_init_0 : cJ13_init.data.toList.drop 0 = dktJ13_init_0 := by decide +kernel
theorem dJ13_init_0 : decode cJ13_init 0 = .ok (.aload_n 0, 1) := dk_42 (dk_at dksJ13_init_0 0 rfl rfl)
theorem dJ13_init_1 : decode cJ13_init 1 = .ok (.aload_n 1, 1) := dk_43 (dk_at dksJ13_init_0 1 rfl rfl)
theorem dJ13_init_2 : decode cJ13_init 2 = .ok (.aconst_null, 1) := dk_1 (dk_at dksJ13_init_0 2 rfl rfl)
theorem dJ13_init_3 : decode cJ13_init 3 = .ok (.invokespecial 489, 3) := dk_183 1 233 (dk_at dksJ13_init_0 3 rfl rfl)
theorem dJ13_init_6 : decode cJ13_init 6 = .ok (.return_, 1) := dk_177 (dk_at dksJ13_init_0 6 rfl rfl)
abbrev cJ13_init_2 : ByteArray := prog_36_method_150_code
def yJ13_init_2 : MethodName := ⟨RJ13, "<init>", "(Ljava/lang/AbstractStringBuilder;Ljava/lang/Void;)V"⟩
def dkwJ13_init_2_4 : List UInt8 := [181, 0, 9, 177]
abbrev dktJ13_init_2_4 : List UInt8 := dkwJ13_init_2_4 ++ []
def dkwJ13_init_2_3 : List UInt8 := [184, 0, 47, 181, 0, 15, 177, 42, 4, 181, 0, 15, 42, 45, 3, 21, 4, 4, 120, 184, 0, 54]
abbrev dktJ13_init_2_3 : List UInt8 := dkwJ13_init_2_3 ++ dktJ13_init_2_4
def dkwJ13_init_2_2 : List UInt8 := [180, 4, 24, 153, 0, 28, 42, 45, 3, 21, 4, 184, 4, 27, 181, 0, 9, 42, 42, 180, 0, 9, 21, 4]
abbrev dktJ13_init_2_2 : List UInt8 := dkwJ13_init_2_2 ++ dktJ13_init_2_3
def dkwJ13_init_2_1 : List UInt8 := [181, 0, 15, 42, 45, 3, 21, 4, 184, 0, 54, 181, 0, 9, 167, 0, 59, 178, 0, 38, 153, 0, 35, 43]
abbrev dktJ13_init_2_1 : List UInt8 := dkwJ13_init_2_1 ++ dktJ13_init_2_2
def dkwJ13_init_2_0 : List UInt8 := [42, 183, 0, 1, 43, 182, 2, 40, 78, 43, 182, 2, 37, 54, 4, 43, 182, 4, 23, 153, 0, 22, 42, 3]
abbrev dktJ13_init_2_0 : List UInt8 := dkwJ13_init_2_0 ++ dktJ13_init_2_1
theorem dksJ13_init_2_0 : cJ13_init_2.data.toList.drop 0 = dktJ13_init_2_0 := by decide +kernel
theorem dksJ13_init_2_1 : cJ13_init_2.data.toList.drop 24 = dktJ13_init_2_1 := dk_seg dksJ13_init_2_0 24 rfl rfl
theorem dksJ13_init_2_2 : cJ13_init_2.data.toList.drop 48 = dktJ13_init_2_2 := dk_seg dksJ13_init_2_1 24 rfl rfl
theorem dksJ13_init_2_3 : cJ13_init_2.data.toList.drop 72 = dktJ13_init_2_3 := dk_seg dksJ13_init_2_2 24 rfl rfl
theorem dksJ13_init_2_4 : cJ13_init_2.data.toList.drop 94 = dktJ13_init_2_4 := dk_seg dksJ13_init_2_3 22 rfl rfl
theorem dJ13_init_2_0 : decode cJ13_init_2 0 = .ok (.aload_n 0, 1) := dk_42 (dk_at dksJ13_init_2_0 0 rfl rfl)
theorem dJ13_init_2_1 : decode cJ13_init_2 1 = .ok (.invokespecial 1, 3) := dk_183 0 1 (dk_at dksJ13_init_2_0 1 rfl rfl)
theorem dJ13_init_2_4 : decode cJ13_init_2 4 = .ok (.aload_n 1, 1) := dk_43 (dk_at dksJ13_init_2_0 4 rfl rfl)
theorem dJ13_init_2_5 : decode cJ13_init_2 5 = .ok (.invokevirtual 552, 3) := dk_182 2 40 (dk_at dksJ13_init_2_0 5 rfl rfl)
theorem dJ13_init_2_8 : decode cJ13_init_2 8 = .ok (.astore_n 3, 1) := dk_78 (dk_at dksJ13_init_2_0 8 rfl rfl)
theorem dJ13_init_2_9 : decode cJ13_init_2 9 = .ok (.aload_n 1, 1) := dk_43 (dk_at dksJ13_init_2_0 9 rfl rfl)
theorem dJ13_init_2_10 : decode cJ13_init_2 10 = .ok (.invokevirtual 549, 3) := dk_182 2 37 (dk_at dksJ13_init_2_0 10 rfl rfl)
theorem dJ13_init_2_13 : decode cJ13_init_2 13 = .ok (.istore 4, 2) := dk_54 4 (dk_at dksJ13_init_2_0 13 rfl rfl)
theorem dJ13_init_2_15 : decode cJ13_init_2 15 = .ok (.aload_n 1, 1) := dk_43 (dk_at dksJ13_init_2_0 15 rfl rfl)
theorem dJ13_init_2_16 : decode cJ13_init_2 16 = .ok (.invokevirtual 1047, 3) := dk_182 4 23 (dk_at dksJ13_init_2_0 16 rfl rfl)
theorem dJ13_init_2_19 : decode cJ13_init_2 19 = .ok (.ifCond .eq 22, 3) := dk_153 0 22 (dk_at dksJ13_init_2_0 19 rfl rfl)
theorem dJ13_init_2_22 : decode cJ13_init_2 22 = .ok (.aload_n 0, 1) := dk_42 (dk_at dksJ13_init_2_0 22 rfl rfl)
theorem dJ13_init_2_23 : decode cJ13_init_2 23 = .ok (.iconst 0, 1) := dk_3 (dk_at dksJ13_init_2_0 23 rfl rfl)
theorem dJ13_init_2_24 : decode cJ13_init_2 24 = .ok (.putfield 15, 3) := dk_181 0 15 (dk_at dksJ13_init_2_1 0 rfl rfl)
theorem dJ13_init_2_27 : decode cJ13_init_2 27 = .ok (.aload_n 0, 1) := dk_42 (dk_at dksJ13_init_2_1 3 rfl rfl)
theorem dJ13_init_2_28 : decode cJ13_init_2 28 = .ok (.aload_n 3, 1) := dk_45 (dk_at dksJ13_init_2_1 4 rfl rfl)
theorem dJ13_init_2_29 : decode cJ13_init_2 29 = .ok (.iconst 0, 1) := dk_3 (dk_at dksJ13_init_2_1 5 rfl rfl)
theorem dJ13_init_2_30 : decode cJ13_init_2 30 = .ok (.iload 4, 2) := dk_21 4 (dk_at dksJ13_init_2_1 6 rfl rfl)
theorem dJ13_init_2_32 : decode cJ13_init_2 32 = .ok (.invokestatic 54, 3) := dk_184 0 54 (dk_at dksJ13_init_2_1 8 rfl rfl)
theorem dJ13_init_2_35 : decode cJ13_init_2 35 = .ok (.putfield 9, 3) := dk_181 0 9 (dk_at dksJ13_init_2_1 11 rfl rfl)
theorem dJ13_init_2_38 : decode cJ13_init_2 38 = .ok (.goto 59, 3) := dk_167 0 59 (dk_at dksJ13_init_2_1 14 rfl rfl)
theorem dJ13_init_2_41 : decode cJ13_init_2 41 = .ok (.getstatic 38, 3) := dk_178 0 38 (dk_at dksJ13_init_2_1 17 rfl rfl)
theorem dJ13_init_2_44 : decode cJ13_init_2 44 = .ok (.ifCond .eq 35, 3) := dk_153 0 35 (dk_at dksJ13_init_2_1 20 rfl rfl)
theorem dJ13_init_2_47 : decode cJ13_init_2 47 = .ok (.aload_n 1, 1) := dk_43 (dk_at dksJ13_init_2_1 23 rfl rfl)
theorem dJ13_init_2_48 : decode cJ13_init_2 48 = .ok (.getfield 1048, 3) := dk_180 4 24 (dk_at dksJ13_init_2_2 0 rfl rfl)
theorem dJ13_init_2_51 : decode cJ13_init_2 51 = .ok (.ifCond .eq 28, 3) := dk_153 0 28 (dk_at dksJ13_init_2_2 3 rfl rfl)
theorem dJ13_init_2_54 : decode cJ13_init_2 54 = .ok (.aload_n 0, 1) := dk_42 (dk_at dksJ13_init_2_2 6 rfl rfl)
theorem dJ13_init_2_55 : decode cJ13_init_2 55 = .ok (.aload_n 3, 1) := dk_45 (dk_at dksJ13_init_2_2 7 rfl rfl)
theorem dJ13_init_2_56 : decode cJ13_init_2 56 = .ok (.iconst 0, 1) := dk_3 (dk_at dksJ13_init_2_2 8 rfl rfl)
theorem dJ13_init_2_57 : decode cJ13_init_2 57 = .ok (.iload 4, 2) := dk_21 4 (dk_at dksJ13_init_2_2 9 rfl rfl)
theorem dJ13_init_2_59 : decode cJ13_init_2 59 = .ok (.invokestatic 1051, 3) := dk_184 4 27 (dk_at dksJ13_init_2_2 11 rfl rfl)
theorem dJ13_init_2_62 : decode cJ13_init_2 62 = .ok (.putfield 9, 3) := dk_181 0 9 (dk_at dksJ13_init_2_2 14 rfl rfl)
theorem dJ13_init_2_65 : decode cJ13_init_2 65 = .ok (.aload_n 0, 1) := dk_42 (dk_at dksJ13_init_2_2 17 rfl rfl)
theorem dJ13_init_2_66 : decode cJ13_init_2 66 = .ok (.aload_n 0, 1) := dk_42 (dk_at dksJ13_init_2_2 18 rfl rfl)
theorem dJ13_init_2_67 : decode cJ13_init_2 67 = .ok (.getfield 9, 3) := dk_180 0 9 (dk_at dksJ13_init_2_2 19 rfl rfl)
theorem dJ13_init_2_70 : decode cJ13_init_2 70 = .ok (.iload 4, 2) := dk_21 4 (dk_at dksJ13_init_2_2 22 rfl rfl)
theorem dJ13_init_2_72 : decode cJ13_init_2 72 = .ok (.invokestatic 47, 3) := dk_184 0 47 (dk_at dksJ13_init_2_3 0 rfl rfl)
theorem dJ13_init_2_75 : decode cJ13_init_2 75 = .ok (.putfield 15, 3) := dk_181 0 15 (dk_at dksJ13_init_2_3 3 rfl rfl)
theorem dJ13_init_2_78 : decode cJ13_init_2 78 = .ok (.return_, 1) := dk_177 (dk_at dksJ13_init_2_3 6 rfl rfl)
theorem dJ13_init_2_79 : decode cJ13_init_2 79 = .ok (.aload_n 0, 1) := dk_42 (dk_at dksJ13_init_2_3 7 rfl rfl)
theorem dJ13_init_2_80 : decode cJ13_init_2 80 = .ok (.iconst 1, 1) := dk_4 (dk_at dksJ13_init_2_3 8 rfl rfl)
theorem dJ13_init_2_81 : decode cJ13_init_2 81 = .ok (.putfield 15, 3) := dk_181 0 15 (dk_at dksJ13_init_2_3 9 rfl rfl)
theorem dJ13_init_2_84 : decode cJ13_init_2 84 = .ok (.aload_n 0, 1) := dk_42 (dk_at dksJ13_init_2_3 12 rfl rfl)
theorem dJ13_init_2_85 : decode cJ13_init_2 85 = .ok (.aload_n 3, 1) := dk_45 (dk_at dksJ13_init_2_3 13 rfl rfl)
theorem dJ13_init_2_86 : decode cJ13_init_2 86 = .ok (.iconst 0, 1) := dk_3 (dk_at dksJ13_init_2_3 14 rfl rfl)
theorem dJ13_init_2_87 : decode cJ13_init_2 87 = .ok (.iload 4, 2) := dk_21 4 (dk_at dksJ13_init_2_3 15 rfl rfl)
theorem dJ13_init_2_89 : decode cJ13_init_2 89 = .ok (.iconst 1, 1) := dk_4 (dk_at dksJ13_init_2_3 17 rfl rfl)
theorem dJ13_init_2_90 : decode cJ13_init_2 90 = .ok (.ishl, 1) := dk_120 (dk_at dksJ13_init_2_3 18 rfl rfl)
theorem dJ13_init_2_91 : decode cJ13_init_2 91 = .ok (.invokestatic 54, 3) := dk_184 0 54 (dk_at dksJ13_init_2_3 19 rfl rfl)
theorem dJ13_init_2_94 : decode cJ13_init_2 94 = .ok (.putfield 9, 3) := dk_181 0 9 (dk_at dksJ13_init_2_4 0 rfl rfl)
theorem dJ13_init_2_97 : decode cJ13_init_2 97 = .ok (.return_, 1) := dk_177 (dk_at dksJ13_init_2_4 3 rfl rfl)
abbrev cJ13_valueOf : ByteArray := prog_36_method_135_code
def yJ13_valueOf : MethodName := ⟨RJ13, "valueOf", "([CII)Ljava/lang/String;"⟩
def dkwJ13_valueOf_0 : List UInt8 := [187, 0, 10, 89, 42, 27, 28, 183, 3, 202, 176]
abbrev dktJ13_valueOf_0 : List UInt8 := dkwJ13_valueOf_0 ++ []
theorem dksJ13_valueOf_0 : cJ13_valueOf.data.toList.drop 0 = dktJ13_valueOf_0 := by decide +kernel
theorem dJ13_valueOf_0 : decode cJ13_valueOf 0 = .ok (.new 10, 3) := dk_187 0 10 (dk_at dksJ13_valueOf_0 0 rfl rfl)
theorem dJ13_valueOf_3 : decode cJ13_valueOf 3 = .ok (.dup, 1) := dk_89 (dk_at dksJ13_valueOf_0 3 rfl rfl)
theorem dJ13_valueOf_4 : decode cJ13_valueOf 4 = .ok (.aload_n 0, 1) := dk_42 (dk_at dksJ13_valueOf_0 4 rfl rfl)
theorem dJ13_valueOf_5 : decode cJ13_valueOf 5 = .ok (.iload_n 1, 1) := dk_27 (dk_at dksJ13_valueOf_0 5 rfl rfl)
theorem dJ13_valueOf_6 : decode cJ13_valueOf 6 = .ok (.iload_n 2, 1) := dk_28 (dk_at dksJ13_valueOf_0 6 rfl rfl)
theorem dJ13_valueOf_7 : decode cJ13_valueOf 7 = .ok (.invokespecial 970, 3) := dk_183 3 202 (dk_at dksJ13_valueOf_0 7 rfl rfl)
theorem dJ13_valueOf_10 : decode cJ13_valueOf 10 = .ok (.areturn, 1) := dk_176 (dk_at dksJ13_valueOf_0 10 rfl rfl)
abbrev cJ13_init_3 : ByteArray := prog_36_method_4_code
def yJ13_init_3 : MethodName := ⟨RJ13, "<init>", "([CII)V"⟩
def dkwJ13_init_3_0 : List UInt8 := [42, 43, 28, 29, 43, 28, 29, 184, 0, 30, 183, 0, 27, 177]
abbrev dktJ13_init_3_0 : List UInt8 := dkwJ13_init_3_0 ++ []
theorem dksJ13_init_3_0 : cJ13_init_3.data.toList.drop 0 = dktJ13_init_3_0 := by decide +kernel
theorem dJ13_init_3_0 : decode cJ13_init_3 0 = .ok (.aload_n 0, 1) := dk_42 (dk_at dksJ13_init_3_0 0 rfl rfl)
theorem dJ13_init_3_1 : decode cJ13_init_3 1 = .ok (.aload_n 1, 1) := dk_43 (dk_at dksJ13_init_3_0 1 rfl rfl)
theorem dJ13_init_3_2 : decode cJ13_init_3 2 = .ok (.iload_n 2, 1) := dk_28 (dk_at dksJ13_init_3_0 2 rfl rfl)
theorem dJ13_init_3_3 : decode cJ13_init_3 3 = .ok (.iload_n 3, 1) := dk_29 (dk_at dksJ13_init_3_0 3 rfl rfl)
theorem dJ13_init_3_4 : decode cJ13_init_3 4 = .ok (.aload_n 1, 1) := dk_43 (dk_at dksJ13_init_3_0 4 rfl rfl)
theorem dJ13_init_3_5 : decode cJ13_init_3 5 = .ok (.iload_n 2, 1) := dk_28 (dk_at dksJ13_init_3_0 5 rfl rfl)
theorem dJ13_init_3_6 : decode cJ13_init_3 6 = .ok (.iload_n 3, 1) := dk_29 (dk_at dksJ13_init_3_0 6 rfl rfl)
theorem dJ13_init_3_7 : decode cJ13_init_3 7 = .ok (.invokestatic 30, 3) := dk_184 0 30 (dk_at dksJ13_init_3_0 7 rfl rfl)
theorem dJ13_init_3_10 : decode cJ13_init_3 10 = .ok (.invokespecial 27, 3) := dk_183 0 27 (dk_at dksJ13_init_3_0 10 rfl rfl)
theorem dJ13_init_3_13 : decode cJ13_init_3 13 = .ok (.return_, 1) := dk_177 (dk_at dksJ13_init_3_0 13 rfl rfl)
abbrev cJ13_rangeCheck : ByteArray := prog_36_method_5_code
def yJ13_rangeCheck : MethodName := ⟨RJ13, "rangeCheck", "([CII)Ljava/lang/Void;"⟩
def dkwJ13_rangeCheck_0 : List UInt8 := [27, 28, 42, 190, 184, 0, 34, 87, 1, 176]
abbrev dktJ13_rangeCheck_0 : List UInt8 := dkwJ13_rangeCheck_0 ++ []
theorem dksJ13_rangeCheck_0 : cJ13_rangeCheck.data.toList.drop 0 = dktJ13_rangeCheck_0 := by decide +kernel
theorem dJ13_rangeCheck_0 : decode cJ13_rangeCheck 0 = .ok (.iload_n 1, 1) := dk_27 (dk_at dksJ13_rangeCheck_0 0 rfl rfl)
theorem dJ13_rangeCheck_1 : decode cJ13_rangeCheck 1 = .ok (.iload_n 2, 1) := dk_28 (dk_at dksJ13_rangeCheck_0 1 rfl rfl)
theorem dJ13_rangeCheck_2 : decode cJ13_rangeCheck 2 = .ok (.aload_n 0, 1) := dk_42 (dk_at dksJ13_rangeCheck_0 2 rfl rfl)
theorem dJ13_rangeCheck_3 : decode cJ13_rangeCheck 3 = .ok (.arraylength, 1) := dk_190 (dk_at dksJ13_rangeCheck_0 3 rfl rfl)
theorem dJ13_rangeCheck_4 : decode cJ13_rangeCheck 4 = .ok (.invokestatic 34, 3) := dk_184 0 34 (dk_at dksJ13_rangeCheck_0 4 rfl rfl)
theorem dJ13_rangeCheck_7 : decode cJ13_rangeCheck 7 = .ok (.pop, 1) := dk_87 (dk_at dksJ13_rangeCheck_0 7 rfl rfl)
theorem dJ13_rangeCheck_8 : decode cJ13_rangeCheck 8 = .ok (.aconst_null, 1) := dk_1 (dk_at dksJ13_rangeCheck_0 8 rfl rfl)
theorem dJ13_rangeCheck_9 : decode cJ13_rangeCheck 9 = .ok (.areturn, 1) := dk_176 (dk_at dksJ13_rangeCheck_0 9 rfl rfl)
abbrev cJ13_init_4 : ByteArray := prog_36_method_149_code
def yJ13_init_4 : MethodName := ⟨RJ13, "<init>", "([CIILjava/lang/Void;)V"⟩
def dkwJ13_init_4_3 : List UInt8 := [184, 0, 180, 181, 0, 9, 177]
abbrev dktJ13_init_4_3 : List UInt8 := dkwJ13_init_4_3 ++ []
def dkwJ13_init_4_2 : List UInt8 := [184, 0, 47, 181, 0, 15, 42, 25, 5, 181, 0, 9, 177, 42, 4, 181, 0, 15, 42, 43, 28, 29]
abbrev dktJ13_init_4_2 : List UInt8 := dkwJ13_init_4_2 ++ dktJ13_init_4_3
def dkwJ13_init_4_1 : List UInt8 := [181, 0, 15, 177, 178, 0, 38, 153, 0, 28, 43, 28, 29, 184, 0, 177, 58, 5, 42, 25, 5, 29]
abbrev dktJ13_init_4_1 : List UInt8 := dkwJ13_init_4_1 ++ dktJ13_init_4_2
def dkwJ13_init_4_0 : List UInt8 := [42, 183, 0, 1, 29, 154, 0, 22, 42, 18, 7, 180, 0, 9, 181, 0, 9, 42, 18, 7, 180, 0, 15]
abbrev dktJ13_init_4_0 : List UInt8 := dkwJ13_init_4_0 ++ dktJ13_init_4_1
theorem dksJ13_init_4_0 : cJ13_init_4.data.toList.drop 0 = dktJ13_init_4_0 := by decide +kernel
theorem dksJ13_init_4_1 : cJ13_init_4.data.toList.drop 23 = dktJ13_init_4_1 := dk_seg dksJ13_init_4_0 23 rfl rfl
theorem dksJ13_init_4_2 : cJ13_init_4.data.toList.drop 45 = dktJ13_init_4_2 := dk_seg dksJ13_init_4_1 22 rfl rfl
theorem dksJ13_init_4_3 : cJ13_init_4.data.toList.drop 67 = dktJ13_init_4_3 := dk_seg dksJ13_init_4_2 22 rfl rfl
theorem dJ13_init_4_0 : decode cJ13_init_4 0 = .ok (.aload_n 0, 1) := dk_42 (dk_at dksJ13_init_4_0 0 rfl rfl)
theorem dJ13_init_4_1 : decode cJ13_init_4 1 = .ok (.invokespecial 1, 3) := dk_183 0 1 (dk_at dksJ13_init_4_0 1 rfl rfl)
theorem dJ13_init_4_4 : decode cJ13_init_4 4 = .ok (.iload_n 3, 1) := dk_29 (dk_at dksJ13_init_4_0 4 rfl rfl)
theorem dJ13_init_4_5 : decode cJ13_init_4 5 = .ok (.ifCond .ne 22, 3) := dk_154 0 22 (dk_at dksJ13_init_4_0 5 rfl rfl)
theorem dJ13_init_4_8 : decode cJ13_init_4 8 = .ok (.aload_n 0, 1) := dk_42 (dk_at dksJ13_init_4_0 8 rfl rfl)
theorem dJ13_init_4_9 : decode cJ13_init_4 9 = .ok (.ldc 7, 2) := dk_18 7 (dk_at dksJ13_init_4_0 9 rfl rfl)
theorem dJ13_init_4_11 : decode cJ13_init_4 11 = .ok (.getfield 9, 3) := dk_180 0 9 (dk_at dksJ13_init_4_0 11 rfl rfl)
theorem dJ13_init_4_14 : decode cJ13_init_4 14 = .ok (.putfield 9, 3) := dk_181 0 9 (dk_at dksJ13_init_4_0 14 rfl rfl)
theorem dJ13_init_4_17 : decode cJ13_init_4 17 = .ok (.aload_n 0, 1) := dk_42 (dk_at dksJ13_init_4_0 17 rfl rfl)
theorem dJ13_init_4_18 : decode cJ13_init_4 18 = .ok (.ldc 7, 2) := dk_18 7 (dk_at dksJ13_init_4_0 18 rfl rfl)
theorem dJ13_init_4_20 : decode cJ13_init_4 20 = .ok (.getfield 15, 3) := dk_180 0 15 (dk_at dksJ13_init_4_0 20 rfl rfl)
theorem dJ13_init_4_23 : decode cJ13_init_4 23 = .ok (.putfield 15, 3) := dk_181 0 15 (dk_at dksJ13_init_4_1 0 rfl rfl)
theorem dJ13_init_4_26 : decode cJ13_init_4 26 = .ok (.return_, 1) := dk_177 (dk_at dksJ13_init_4_1 3 rfl rfl)
theorem dJ13_init_4_27 : decode cJ13_init_4 27 = .ok (.getstatic 38, 3) := dk_178 0 38 (dk_at dksJ13_init_4_1 4 rfl rfl)
theorem dJ13_init_4_30 : decode cJ13_init_4 30 = .ok (.ifCond .eq 28, 3) := dk_153 0 28 (dk_at dksJ13_init_4_1 7 rfl rfl)
theorem dJ13_init_4_33 : decode cJ13_init_4 33 = .ok (.aload_n 1, 1) := dk_43 (dk_at dksJ13_init_4_1 10 rfl rfl)
theorem dJ13_init_4_34 : decode cJ13_init_4 34 = .ok (.iload_n 2, 1) := dk_28 (dk_at dksJ13_init_4_1 11 rfl rfl)
theorem dJ13_init_4_35 : decode cJ13_init_4 35 = .ok (.iload_n 3, 1) := dk_29 (dk_at dksJ13_init_4_1 12 rfl rfl)
theorem dJ13_init_4_36 : decode cJ13_init_4 36 = .ok (.invokestatic 177, 3) := dk_184 0 177 (dk_at dksJ13_init_4_1 13 rfl rfl)
theorem dJ13_init_4_39 : decode cJ13_init_4 39 = .ok (.astore 5, 2) := dk_58 5 (dk_at dksJ13_init_4_1 16 rfl rfl)
theorem dJ13_init_4_41 : decode cJ13_init_4 41 = .ok (.aload_n 0, 1) := dk_42 (dk_at dksJ13_init_4_1 18 rfl rfl)
theorem dJ13_init_4_42 : decode cJ13_init_4 42 = .ok (.aload 5, 2) := dk_25 5 (dk_at dksJ13_init_4_1 19 rfl rfl)
theorem dJ13_init_4_44 : decode cJ13_init_4 44 = .ok (.iload_n 3, 1) := dk_29 (dk_at dksJ13_init_4_1 21 rfl rfl)
theorem dJ13_init_4_45 : decode cJ13_init_4 45 = .ok (.invokestatic 47, 3) := dk_184 0 47 (dk_at dksJ13_init_4_2 0 rfl rfl)
theorem dJ13_init_4_48 : decode cJ13_init_4 48 = .ok (.putfield 15, 3) := dk_181 0 15 (dk_at dksJ13_init_4_2 3 rfl rfl)
theorem dJ13_init_4_51 : decode cJ13_init_4 51 = .ok (.aload_n 0, 1) := dk_42 (dk_at dksJ13_init_4_2 6 rfl rfl)
theorem dJ13_init_4_52 : decode cJ13_init_4 52 = .ok (.aload 5, 2) := dk_25 5 (dk_at dksJ13_init_4_2 7 rfl rfl)
theorem dJ13_init_4_54 : decode cJ13_init_4 54 = .ok (.putfield 9, 3) := dk_181 0 9 (dk_at dksJ13_init_4_2 9 rfl rfl)
theorem dJ13_init_4_57 : decode cJ13_init_4 57 = .ok (.return_, 1) := dk_177 (dk_at dksJ13_init_4_2 12 rfl rfl)
theorem dJ13_init_4_58 : decode cJ13_init_4 58 = .ok (.aload_n 0, 1) := dk_42 (dk_at dksJ13_init_4_2 13 rfl rfl)
theorem dJ13_init_4_59 : decode cJ13_init_4 59 = .ok (.iconst 1, 1) := dk_4 (dk_at dksJ13_init_4_2 14 rfl rfl)
theorem dJ13_init_4_60 : decode cJ13_init_4 60 = .ok (.putfield 15, 3) := dk_181 0 15 (dk_at dksJ13_init_4_2 15 rfl rfl)
theorem dJ13_init_4_63 : decode cJ13_init_4 63 = .ok (.aload_n 0, 1) := dk_42 (dk_at dksJ13_init_4_2 18 rfl rfl)
theorem dJ13_init_4_64 : decode cJ13_init_4 64 = .ok (.aload_n 1, 1) := dk_43 (dk_at dksJ13_init_4_2 19 rfl rfl)
theorem dJ13_init_4_65 : decode cJ13_init_4 65 = .ok (.iload_n 2, 1) := dk_28 (dk_at dksJ13_init_4_2 20 rfl rfl)
theorem dJ13_init_4_66 : decode cJ13_init_4 66 = .ok (.iload_n 3, 1) := dk_29 (dk_at dksJ13_init_4_2 21 rfl rfl)
theorem dJ13_init_4_67 : decode cJ13_init_4 67 = .ok (.invokestatic 180, 3) := dk_184 0 180 (dk_at dksJ13_init_4_3 0 rfl rfl)
theorem dJ13_init_4_70 : decode cJ13_init_4 70 = .ok (.putfield 9, 3) := dk_181 0 9 (dk_at dksJ13_init_4_3 3 rfl rfl)
theorem dJ13_init_4_73 : decode cJ13_init_4 73 = .ok (.return_, 1) := dk_177 (dk_at dksJ13_init_4_3 6 rfl rfl)
abbrev cJ13_substring : ByteArray := prog_36_method_92_code
def yJ13_substring : MethodName := ⟨RJ13, "substring", "(II)Ljava/lang/String;"⟩
def dkwJ13_substring_2 : List UInt8 := [180, 0, 9, 27, 21, 4, 184, 2, 177, 176]
abbrev dktJ13_substring_2 : List UInt8 := dkwJ13_substring_2 ++ []
def dkwJ13_substring_1 : List UInt8 := [100, 54, 4, 42, 182, 1, 236, 153, 0, 16, 42, 180, 0, 9, 27, 21, 4, 184, 2, 173, 167, 0, 13, 42]
abbrev dktJ13_substring_1 : List UInt8 := dkwJ13_substring_1 ++ dktJ13_substring_2
def dkwJ13_substring_0 : List UInt8 := [42, 182, 1, 249, 62, 27, 28, 29, 184, 2, 9, 27, 154, 0, 10, 28, 29, 160, 0, 5, 42, 176, 28, 27]
abbrev dktJ13_substring_0 : List UInt8 := dkwJ13_substring_0 ++ dktJ13_substring_1
theorem dksJ13_substring_0 : cJ13_substring.data.toList.drop 0 = dktJ13_substring_0 := by decide +kernel
theorem dksJ13_substring_1 : cJ13_substring.data.toList.drop 24 = dktJ13_substring_1 := dk_seg dksJ13_substring_0 24 rfl rfl
theorem dksJ13_substring_2 : cJ13_substring.data.toList.drop 48 = dktJ13_substring_2 := dk_seg dksJ13_substring_1 24 rfl rfl
theorem dJ13_substring_0 : decode cJ13_substring 0 = .ok (.aload_n 0, 1) := dk_42 (dk_at dksJ13_substring_0 0 rfl rfl)
theorem dJ13_substring_1 : decode cJ13_substring 1 = .ok (.invokevirtual 505, 3) := dk_182 1 249 (dk_at dksJ13_substring_0 1 rfl rfl)
theorem dJ13_substring_4 : decode cJ13_substring 4 = .ok (.istore_n 3, 1) := dk_62 (dk_at dksJ13_substring_0 4 rfl rfl)
theorem dJ13_substring_5 : decode cJ13_substring 5 = .ok (.iload_n 1, 1) := dk_27 (dk_at dksJ13_substring_0 5 rfl rfl)
theorem dJ13_substring_6 : decode cJ13_substring 6 = .ok (.iload_n 2, 1) := dk_28 (dk_at dksJ13_substring_0 6 rfl rfl)
theorem dJ13_substring_7 : decode cJ13_substring 7 = .ok (.iload_n 3, 1) := dk_29 (dk_at dksJ13_substring_0 7 rfl rfl)
theorem dJ13_substring_8 : decode cJ13_substring 8 = .ok (.invokestatic 521, 3) := dk_184 2 9 (dk_at dksJ13_substring_0 8 rfl rfl)
theorem dJ13_substring_11 : decode cJ13_substring 11 = .ok (.iload_n 1, 1) := dk_27 (dk_at dksJ13_substring_0 11 rfl rfl)
theorem dJ13_substring_12 : decode cJ13_substring 12 = .ok (.ifCond .ne 10, 3) := dk_154 0 10 (dk_at dksJ13_substring_0 12 rfl rfl)
theorem dJ13_substring_15 : decode cJ13_substring 15 = .ok (.iload_n 2, 1) := dk_28 (dk_at dksJ13_substring_0 15 rfl rfl)
theorem dJ13_substring_16 : decode cJ13_substring 16 = .ok (.iload_n 3, 1) := dk_29 (dk_at dksJ13_substring_0 16 rfl rfl)
theorem dJ13_substring_17 : decode cJ13_substring 17 = .ok (.if_icmp .ne 5, 3) := dk_160 0 5 (dk_at dksJ13_substring_0 17 rfl rfl)
theorem dJ13_substring_20 : decode cJ13_substring 20 = .ok (.aload_n 0, 1) := dk_42 (dk_at dksJ13_substring_0 20 rfl rfl)
theorem dJ13_substring_21 : decode cJ13_substring 21 = .ok (.areturn, 1) := dk_176 (dk_at dksJ13_substring_0 21 rfl rfl)
theorem dJ13_substring_22 : decode cJ13_substring 22 = .ok (.iload_n 2, 1) := dk_28 (dk_at dksJ13_substring_0 22 rfl rfl)
theorem dJ13_substring_23 : decode cJ13_substring 23 = .ok (.iload_n 1, 1) := dk_27 (dk_at dksJ13_substring_0 23 rfl rfl)
theorem dJ13_substring_24 : decode cJ13_substring 24 = .ok (.isub, 1) := dk_100 (dk_at dksJ13_substring_1 0 rfl rfl)
theorem dJ13_substring_25 : decode cJ13_substring 25 = .ok (.istore 4, 2) := dk_54 4 (dk_at dksJ13_substring_1 1 rfl rfl)
theorem dJ13_substring_27 : decode cJ13_substring 27 = .ok (.aload_n 0, 1) := dk_42 (dk_at dksJ13_substring_1 3 rfl rfl)
theorem dJ13_substring_28 : decode cJ13_substring 28 = .ok (.invokevirtual 492, 3) := dk_182 1 236 (dk_at dksJ13_substring_1 4 rfl rfl)
theorem dJ13_substring_31 : decode cJ13_substring 31 = .ok (.ifCond .eq 16, 3) := dk_153 0 16 (dk_at dksJ13_substring_1 7 rfl rfl)
theorem dJ13_substring_34 : decode cJ13_substring 34 = .ok (.aload_n 0, 1) := dk_42 (dk_at dksJ13_substring_1 10 rfl rfl)
theorem dJ13_substring_35 : decode cJ13_substring 35 = .ok (.getfield 9, 3) := dk_180 0 9 (dk_at dksJ13_substring_1 11 rfl rfl)
theorem dJ13_substring_38 : decode cJ13_substring 38 = .ok (.iload_n 1, 1) := dk_27 (dk_at dksJ13_substring_1 14 rfl rfl)
theorem dJ13_substring_39 : decode cJ13_substring 39 = .ok (.iload 4, 2) := dk_21 4 (dk_at dksJ13_substring_1 15 rfl rfl)
theorem dJ13_substring_41 : decode cJ13_substring 41 = .ok (.invokestatic 685, 3) := dk_184 2 173 (dk_at dksJ13_substring_1 17 rfl rfl)
theorem dJ13_substring_44 : decode cJ13_substring 44 = .ok (.goto 13, 3) := dk_167 0 13 (dk_at dksJ13_substring_1 20 rfl rfl)
theorem dJ13_substring_47 : decode cJ13_substring 47 = .ok (.aload_n 0, 1) := dk_42 (dk_at dksJ13_substring_1 23 rfl rfl)
theorem dJ13_substring_48 : decode cJ13_substring 48 = .ok (.getfield 9, 3) := dk_180 0 9 (dk_at dksJ13_substring_2 0 rfl rfl)
theorem dJ13_substring_51 : decode cJ13_substring 51 = .ok (.iload_n 1, 1) := dk_27 (dk_at dksJ13_substring_2 3 rfl rfl)
theorem dJ13_substring_52 : decode cJ13_substring 52 = .ok (.iload 4, 2) := dk_21 4 (dk_at dksJ13_substring_2 4 rfl rfl)
theorem dJ13_substring_54 : decode cJ13_substring 54 = .ok (.invokestatic 689, 3) := dk_184 2 177 (dk_at dksJ13_substring_2 6 rfl rfl)
theorem dJ13_substring_57 : decode cJ13_substring 57 = .ok (.areturn, 1) := dk_176 (dk_at dksJ13_substring_2 9 rfl rfl)
abbrev cJ13_init_5 : ByteArray := prog_36_method_151_code
def yJ13_init_5 : MethodName := ⟨RJ13, "<init>", "([BB)V"⟩
def dkwJ13_init_5_0 : List UInt8 := [42, 183, 0, 1, 42, 43, 181, 0, 9, 42, 28, 181, 0, 15, 177]
abbrev dktJ13_init_5_0 : List UInt8 := dkwJ13_init_5_0 ++ []
theorem dksJ13_init_5_0 : cJ13_init_5.data.toList.drop 0 = dktJ13_init_5_0 := by decide +kernel
theorem dJ13_init_5_0 : decode cJ13_init_5 0 = .ok (.aload_n 0, 1) := dk_42 (dk_at dksJ13_init_5_0 0 rfl rfl)
theorem dJ13_init_5_1 : decode cJ13_init_5 1 = .ok (.invokespecial 1, 3) := dk_183 0 1 (dk_at dksJ13_init_5_0 1 rfl rfl)
theorem dJ13_init_5_4 : decode cJ13_init_5 4 = .ok (.aload_n 0, 1) := dk_42 (dk_at dksJ13_init_5_0 4 rfl rfl)
theorem dJ13_init_5_5 : decode cJ13_init_5 5 = .ok (.aload_n 1, 1) := dk_43 (dk_at dksJ13_init_5_0 5 rfl rfl)
theorem dJ13_init_5_6 : decode cJ13_init_5 6 = .ok (.putfield 9, 3) := dk_181 0 9 (dk_at dksJ13_init_5_0 6 rfl rfl)
theorem dJ13_init_5_9 : decode cJ13_init_5 9 = .ok (.aload_n 0, 1) := dk_42 (dk_at dksJ13_init_5_0 9 rfl rfl)
theorem dJ13_init_5_10 : decode cJ13_init_5 10 = .ok (.iload_n 2, 1) := dk_28 (dk_at dksJ13_init_5_0 10 rfl rfl)
theorem dJ13_init_5_11 : decode cJ13_init_5 11 = .ok (.putfield 15, 3) := dk_181 0 15 (dk_at dksJ13_init_5_0 11 rfl rfl)
theorem dJ13_init_5_14 : decode cJ13_init_5 14 = .ok (.return_, 1) := dk_177 (dk_at dksJ13_init_5_0 14 rfl rfl)
theorem q116 : (Jvm.Cond.initialized "java/lang/String") ∈ lw_all := lw_g (lw_at lw_m1 20 rfl) rfl
theorem q431 : (Jvm.Cond.selects "java/lang/String" ({ cls := "java/lang/Object", name := "getClass", desc := "()Ljava/lang/Class;" } : Jvm.MethodName) ({ cls := "java/lang/Object", name := "getClass", desc := "()Ljava/lang/Class;" } : Jvm.MethodName)) ∈ lw_all := lw_g (lw_at lw_m2 95 rfl) rfl
theorem q538 : (Jvm.Cond.instanceMethod ({ cls := "java/lang/String", name := "length", desc := "()I" } : Jvm.MethodName)) ∈ lw_all := lw_g (lw_at lw_m2 202 rfl) rfl
theorem q539 : (Jvm.Cond.selects "java/lang/String" ({ cls := "java/lang/String", name := "length", desc := "()I" } : Jvm.MethodName) ({ cls := "java/lang/String", name := "length", desc := "()I" } : Jvm.MethodName)) ∈ lw_all := lw_g (lw_at lw_m2 203 rfl) rfl
theorem q540 : (Jvm.Cond.code ({ cls := "java/lang/String", name := "length", desc := "()I" } : Jvm.MethodName) prog_36_method_54_code (1 : Nat) (Option.some Jvm.ClassFile.FieldType.int)) ∈ lw_all := lw_g (lw_at lw_m2 204 rfl) rfl
theorem q541 : (Jvm.Cond.methodLink "java/lang/String" (335 : Nat) ({ cls := "java/lang/String", name := "coder", desc := "()B" } : Jvm.MethodName)) ∈ lw_all := lw_g (lw_at lw_m2 205 rfl) rfl
theorem q542 : (Jvm.Cond.instanceMethod ({ cls := "java/lang/String", name := "coder", desc := "()B" } : Jvm.MethodName)) ∈ lw_all := lw_g (lw_at lw_m2 206 rfl) rfl
theorem q543 : (Jvm.Cond.selects "java/lang/String" ({ cls := "java/lang/String", name := "coder", desc := "()B" } : Jvm.MethodName) ({ cls := "java/lang/String", name := "coder", desc := "()B" } : Jvm.MethodName)) ∈ lw_all := lw_g (lw_at lw_m2 207 rfl) rfl
theorem q544 : (Jvm.Cond.code ({ cls := "java/lang/String", name := "coder", desc := "()B" } : Jvm.MethodName) prog_36_method_152_code (1 : Nat) (Option.some Jvm.ClassFile.FieldType.byte)) ∈ lw_all := lw_g (lw_at lw_m2 208 rfl) rfl
theorem q545 : (Jvm.Cond.fieldLink "java/lang/String" (38 : Nat) "java/lang/String" "COMPACT_STRINGS" "Z") ∈ lw_all := lw_g (lw_at lw_m2 209 rfl) rfl
theorem q546 : (Jvm.Cond.laysStatic "java/lang/String" "COMPACT_STRINGS" "Z") ∈ lw_tbl := lw_at lw_m2 210 rfl
theorem q597 : (Jvm.Cond.instanceMethod ({ cls := "java/lang/String", name := "equals", desc := "(Ljava/lang/Object;)Z" } : Jvm.MethodName)) ∈ lw_all := lw_g (lw_at lw_m3 21 rfl) rfl
theorem q598 : (Jvm.Cond.selects "java/lang/String" ({ cls := "java/lang/String", name := "equals", desc := "(Ljava/lang/Object;)Z" } : Jvm.MethodName) ({ cls := "java/lang/String", name := "equals", desc := "(Ljava/lang/Object;)Z" } : Jvm.MethodName)) ∈ lw_all := lw_g (lw_at lw_m3 22 rfl) rfl
theorem q599 : (Jvm.Cond.code ({ cls := "java/lang/String", name := "equals", desc := "(Ljava/lang/Object;)Z" } : Jvm.MethodName) prog_36_method_66_code (3 : Nat) (Option.some Jvm.ClassFile.FieldType.boolean)) ∈ lw_all := lw_g (lw_at lw_m3 23 rfl) rfl
theorem q600 : (Jvm.Cond.classLink "java/lang/String" (10 : Nat) "java/lang/String") ∈ lw_all := lw_g (lw_at lw_m3 24 rfl) rfl
theorem q601 : (Jvm.Cond.methodLink "java/lang/String" (541 : Nat) ({ cls := "java/lang/StringLatin1", name := "equals", desc := "([B[B)Z" } : Jvm.MethodName)) ∈ lw_all := lw_g (lw_at lw_m3 25 rfl) rfl
theorem q613 : (Jvm.Cond.instanceMethod ({ cls := "java/lang/String", name := "charAt", desc := "(I)C" } : Jvm.MethodName)) ∈ lw_all := lw_g (lw_at lw_m3 37 rfl) rfl
theorem q614 : (Jvm.Cond.selects "java/lang/String" ({ cls := "java/lang/String", name := "charAt", desc := "(I)C" } : Jvm.MethodName) ({ cls := "java/lang/String", name := "charAt", desc := "(I)C" } : Jvm.MethodName)) ∈ lw_all := lw_g (lw_at lw_m3 38 rfl) rfl
theorem q615 : (Jvm.Cond.code ({ cls := "java/lang/String", name := "charAt", desc := "(I)C" } : Jvm.MethodName) prog_36_method_56_code (2 : Nat) (Option.some Jvm.ClassFile.FieldType.char)) ∈ lw_all := lw_g (lw_at lw_m3 39 rfl) rfl
theorem q616 : (Jvm.Cond.methodLink "java/lang/String" (492 : Nat) ({ cls := "java/lang/String", name := "isLatin1", desc := "()Z" } : Jvm.MethodName)) ∈ lw_all := lw_g (lw_at lw_m3 40 rfl) rfl
theorem q617 : (Jvm.Cond.instanceMethod ({ cls := "java/lang/String", name := "isLatin1", desc := "()Z" } : Jvm.MethodName)) ∈ lw_all := lw_g (lw_at lw_m3 41 rfl) rfl
theorem q618 : (Jvm.Cond.selects "java/lang/String" ({ cls := "java/lang/String", name := "isLatin1", desc := "()Z" } : Jvm.MethodName) ({ cls := "java/lang/String", name := "isLatin1", desc := "()Z" } : Jvm.MethodName)) ∈ lw_all := lw_g (lw_at lw_m3 42 rfl) rfl
theorem q619 : (Jvm.Cond.code ({ cls := "java/lang/String", name := "isLatin1", desc := "()Z" } : Jvm.MethodName) prog_36_method_154_code (1 : Nat) (Option.some Jvm.ClassFile.FieldType.boolean)) ∈ lw_all := lw_g (lw_at lw_m3 43 rfl) rfl
theorem q620 : (Jvm.Cond.methodLink "java/lang/String" (495 : Nat) ({ cls := "java/lang/StringLatin1", name := "charAt", desc := "([BI)C" } : Jvm.MethodName)) ∈ lw_all := lw_g (lw_at lw_m3 44 rfl) rfl
theorem q624 : (Jvm.Cond.static ({ cls := "java/lang/String", name := "checkIndex", desc := "(II)V" } : Jvm.MethodName)) ∈ lw_all := lw_g (lw_at lw_m3 48 rfl) rfl
theorem q625 : (Jvm.Cond.code ({ cls := "java/lang/String", name := "checkIndex", desc := "(II)V" } : Jvm.MethodName) prog_36_method_155_code (2 : Nat) (Option.none : Option Jvm.ClassFile.FieldType)) ∈ lw_all := lw_g (lw_at lw_m3 49 rfl) rfl
theorem q626 : (Jvm.Cond.fieldLink "java/lang/String" (1053 : Nat) "jdk/internal/util/Preconditions" "SIOOBE_FORMATTER" "Ljava/util/function/BiFunction;") ∈ lw_all := lw_g (lw_at lw_m3 50 rfl) rfl
theorem q628 : (Jvm.Cond.methodLink "java/lang/String" (1059 : Nat) ({ cls := "jdk/internal/util/Preconditions", name := "checkIndex", desc := "(IILjava/util/function/BiFunction;)I" } : Jvm.MethodName)) ∈ lw_all := lw_g (lw_at lw_m3 52 rfl) rfl
theorem q629 : (Jvm.Cond.methodLink "java/lang/String" (498 : Nat) ({ cls := "java/lang/StringUTF16", name := "charAt", desc := "([BI)C" } : Jvm.MethodName)) ∈ lw_all := lw_g (lw_at lw_m3 53 rfl) rfl
theorem q768 : (Jvm.Cond.fieldLink "java/lang/String" (1048 : Nat) "java/lang/AbstractStringBuilder" "maybeLatin1" "Z") ∈ lw_all := lw_g (lw_at lw_m3 192 rfl) rfl
theorem q824 : (Jvm.Cond.static ({ cls := "java/lang/String", name := "checkBoundsBeginEnd", desc := "(III)V" } : Jvm.MethodName)) ∈ lw_all := lw_g (lw_at lw_m4 8 rfl) rfl
theorem q825 : (Jvm.Cond.code ({ cls := "java/lang/String", name := "checkBoundsBeginEnd", desc := "(III)V" } : Jvm.MethodName) prog_36_method_158_code (3 : Nat) (Option.none : Option Jvm.ClassFile.FieldType)) ∈ lw_all := lw_g (lw_at lw_m4 9 rfl) rfl
theorem q826 : (Jvm.Cond.methodLink "java/lang/String" (1062 : Nat) ({ cls := "jdk/internal/util/Preconditions", name := "checkFromToIndex", desc := "(IIILjava/util/function/BiFunction;)I" } : Jvm.MethodName)) ∈ lw_all := lw_g (lw_at lw_m4 10 rfl) rfl
theorem q856 : (Jvm.Cond.static ({ cls := "java/lang/String", name := "checkBoundsOffCount", desc := "(III)I" } : Jvm.MethodName)) ∈ lw_all := lw_g (lw_at lw_m4 40 rfl) rfl
theorem q857 : (Jvm.Cond.code ({ cls := "java/lang/String", name := "checkBoundsOffCount", desc := "(III)I" } : Jvm.MethodName) prog_36_method_157_code (3 : Nat) (Option.some Jvm.ClassFile.FieldType.int)) ∈ lw_all := lw_g (lw_at lw_m4 41 rfl) rfl
theorem q858 : (Jvm.Cond.methodLink "java/lang/String" (1065 : Nat) ({ cls := "jdk/internal/util/Preconditions", name := "checkFromIndexSize", desc := "(IIILjava/util/function/BiFunction;)I" } : Jvm.MethodName)) ∈ lw_all := lw_g (lw_at lw_m4 42 rfl) rfl
theorem q862 : (Jvm.Cond.instanceMethod ({ cls := "java/lang/String", name := "getBytes", desc := "([BIB)V" } : Jvm.MethodName)) ∈ lw_all := lw_g (lw_at lw_m4 46 rfl) rfl
theorem q863 : (Jvm.Cond.selects "java/lang/String" ({ cls := "java/lang/String", name := "getBytes", desc := "([BIB)V" } : Jvm.MethodName) ({ cls := "java/lang/String", name := "getBytes", desc := "([BIB)V" } : Jvm.MethodName)) ∈ lw_all := lw_g (lw_at lw_m4 47 rfl) rfl
theorem q864 : (Jvm.Cond.code ({ cls := "java/lang/String", name := "getBytes", desc := "([BIB)V" } : Jvm.MethodName) prog_36_method_147_code (4 : Nat) (Option.none : Option Jvm.ClassFile.FieldType)) ∈ lw_all := lw_g (lw_at lw_m4 48 rfl) rfl
theorem q865 : (Jvm.Cond.methodLink "java/lang/String" (212 : Nat) ({ cls := "java/lang/System", name := "arraycopy", desc := "(Ljava/lang/Object;ILjava/lang/Object;II)V" } : Jvm.MethodName)) ∈ lw_all := lw_g (lw_at lw_m4 49 rfl) rfl
theorem q866 : (Jvm.Cond.methodLink "java/lang/String" (106 : Nat) ({ cls := "java/lang/StringLatin1", name := "inflate", desc := "([BI[BII)V" } : Jvm.MethodName)) ∈ lw_all := lw_g (lw_at lw_m4 50 rfl) rfl
theorem q898 : (Jvm.Cond.instantiable "java/lang/String" (4 : Nat)) ∈ lw_all := lw_g (lw_at lw_m4 82 rfl) rfl
theorem q900 : (Jvm.Cond.instanceMethod ({ cls := "java/lang/String", name := "<init>", desc := "(Ljava/lang/StringBuilder;)V" } : Jvm.MethodName)) ∈ lw_all := lw_g (lw_at lw_m4 84 rfl) rfl
theorem q901 : (Jvm.Cond.code ({ cls := "java/lang/String", name := "<init>", desc := "(Ljava/lang/StringBuilder;)V" } : Jvm.MethodName) prog_36_method_53_code (2 : Nat) (Option.none : Option Jvm.ClassFile.FieldType)) ∈ lw_all := lw_g (lw_at lw_m4 85 rfl) rfl
theorem q902 : (Jvm.Cond.methodLink "java/lang/String" (489 : Nat) ({ cls := "java/lang/String", name := "<init>", desc := "(Ljava/lang/AbstractStringBuilder;Ljava/lang/Void;)V" } : Jvm.MethodName)) ∈ lw_all := lw_g (lw_at lw_m4 86 rfl) rfl
theorem q903 : (Jvm.Cond.instanceMethod ({ cls := "java/lang/String", name := "<init>", desc := "(Ljava/lang/AbstractStringBuilder;Ljava/lang/Void;)V" } : Jvm.MethodName)) ∈ lw_all := lw_g (lw_at lw_m4 87 rfl) rfl
theorem q904 : (Jvm.Cond.code ({ cls := "java/lang/String", name := "<init>", desc := "(Ljava/lang/AbstractStringBuilder;Ljava/lang/Void;)V" } : Jvm.MethodName) prog_36_method_150_code (5 : Nat) (Option.none : Option Jvm.ClassFile.FieldType)) ∈ lw_all := lw_g (lw_at lw_m4 88 rfl) rfl
theorem q905 : (Jvm.Cond.methodLink "java/lang/String" (1 : Nat) ({ cls := "java/lang/Object", name := "<init>", desc := "()V" } : Jvm.MethodName)) ∈ lw_all := lw_g (lw_at lw_m4 89 rfl) rfl
theorem q906 : (Jvm.Cond.methodLink "java/lang/String" (552 : Nat) ({ cls := "java/lang/AbstractStringBuilder", name := "getValue", desc := "()[B" } : Jvm.MethodName)) ∈ lw_all := lw_g (lw_at lw_m4 90 rfl) rfl
theorem q911 : (Jvm.Cond.methodLink "java/lang/String" (549 : Nat) ({ cls := "java/lang/AbstractStringBuilder", name := "length", desc := "()I" } : Jvm.MethodName)) ∈ lw_all := lw_g (lw_at lw_m4 95 rfl) rfl
theorem q919 : (Jvm.Cond.methodLink "java/lang/String" (1047 : Nat) ({ cls := "java/lang/AbstractStringBuilder", name := "isLatin1", desc := "()Z" } : Jvm.MethodName)) ∈ lw_all := lw_g (lw_at lw_m4 103 rfl) rfl
theorem q920 : (Jvm.Cond.methodLink "java/lang/String" (54 : Nat) ({ cls := "java/util/Arrays", name := "copyOfRange", desc := "([BII)[B" } : Jvm.MethodName)) ∈ lw_all := lw_g (lw_at lw_m4 104 rfl) rfl
theorem q958 : (Jvm.Cond.methodLink "java/lang/String" (1051 : Nat) ({ cls := "java/lang/StringUTF16", name := "compress", desc := "([BII)[B" } : Jvm.MethodName)) ∈ lw_all := lw_g (lw_at lw_m4 142 rfl) rfl
theorem q965 : (Jvm.Cond.methodLink "java/lang/String" (47 : Nat) ({ cls := "java/lang/StringUTF16", name := "coderFromArrayLen", desc := "([BI)B" } : Jvm.MethodName)) ∈ lw_all := lw_g (lw_at lw_m4 149 rfl) rfl
theorem q968 : (Jvm.Cond.fieldLink "java/lang/String" (9 : Nat) "java/lang/String" "value" "[B") ∈ lw_all := lw_g (lw_at lw_m4 152 rfl) rfl
theorem q969 : (Jvm.Cond.fieldLink "java/lang/String" (15 : Nat) "java/lang/String" "coder" "B") ∈ lw_all := lw_g (lw_at lw_m4 153 rfl) rfl
theorem q970 : (Jvm.Cond.laysFinal "java/lang/String" "java/lang/String" "value" "[B") ∈ lw_all := lw_g (lw_at lw_m4 154 rfl) rfl
theorem q971 : (Jvm.Cond.soleField "java/lang/String" "value") ∈ lw_all := lw_g (lw_at lw_m4 155 rfl) rfl
theorem q972 : (Jvm.Cond.laysFinal "java/lang/String" "java/lang/String" "coder" "B") ∈ lw_all := lw_g (lw_at lw_m4 156 rfl) rfl
theorem q973 : (Jvm.Cond.soleField "java/lang/String" "coder") ∈ lw_all := lw_g (lw_at lw_m4 157 rfl) rfl
theorem q974 : (Jvm.Cond.lays "java/lang/String" "java/lang/String" "hash" "I") ∈ lw_all := lw_g (lw_at lw_m4 158 rfl) rfl
theorem q975 : (Jvm.Cond.soleField "java/lang/String" "hash") ∈ lw_all := lw_g (lw_at lw_m4 159 rfl) rfl
theorem q976 : (Jvm.Cond.lays "java/lang/String" "java/lang/String" "hashIsZero" "Z") ∈ lw_all := lw_g (lw_at lw_m4 160 rfl) rfl
theorem q977 : (Jvm.Cond.soleField "java/lang/String" "hashIsZero") ∈ lw_all := lw_g (lw_at lw_m4 161 rfl) rfl
theorem q978 : (Jvm.Cond.superclass "java/lang/String" "java/lang/Object") ∈ lw_all := lw_g (lw_at lw_m4 162 rfl) rfl
theorem q1093 : (Jvm.Cond.static ({ cls := "java/lang/String", name := "valueOf", desc := "([CII)Ljava/lang/String;" } : Jvm.MethodName)) ∈ lw_all := lw_g (lw_at lw_m5 37 rfl) rfl
theorem q1094 : (Jvm.Cond.code ({ cls := "java/lang/String", name := "valueOf", desc := "([CII)Ljava/lang/String;" } : Jvm.MethodName) prog_36_method_135_code (3 : Nat) (Option.some (Jvm.ClassFile.FieldType.object "java/lang/String"))) ∈ lw_all := lw_g (lw_at lw_m5 38 rfl) rfl
theorem q1095 : (Jvm.Cond.methodLink "java/lang/String" (970 : Nat) ({ cls := "java/lang/String", name := "<init>", desc := "([CII)V" } : Jvm.MethodName)) ∈ lw_all := lw_g (lw_at lw_m5 39 rfl) rfl
theorem q1096 : (Jvm.Cond.instanceMethod ({ cls := "java/lang/String", name := "<init>", desc := "([CII)V" } : Jvm.MethodName)) ∈ lw_all := lw_g (lw_at lw_m5 40 rfl) rfl
theorem q1097 : (Jvm.Cond.code ({ cls := "java/lang/String", name := "<init>", desc := "([CII)V" } : Jvm.MethodName) prog_36_method_4_code (4 : Nat) (Option.none : Option Jvm.ClassFile.FieldType)) ∈ lw_all := lw_g (lw_at lw_m5 41 rfl) rfl
theorem q1098 : (Jvm.Cond.methodLink "java/lang/String" (30 : Nat) ({ cls := "java/lang/String", name := "rangeCheck", desc := "([CII)Ljava/lang/Void;" } : Jvm.MethodName)) ∈ lw_all := lw_g (lw_at lw_m5 42 rfl) rfl
theorem q1099 : (Jvm.Cond.static ({ cls := "java/lang/String", name := "rangeCheck", desc := "([CII)Ljava/lang/Void;" } : Jvm.MethodName)) ∈ lw_all := lw_g (lw_at lw_m5 43 rfl) rfl
theorem q1100 : (Jvm.Cond.code ({ cls := "java/lang/String", name := "rangeCheck", desc := "([CII)Ljava/lang/Void;" } : Jvm.MethodName) prog_36_method_5_code (3 : Nat) (Option.some (Jvm.ClassFile.FieldType.object "java/lang/Void"))) ∈ lw_all := lw_g (lw_at lw_m5 44 rfl) rfl
theorem q1101 : (Jvm.Cond.methodLink "java/lang/String" (34 : Nat) ({ cls := "java/lang/String", name := "checkBoundsOffCount", desc := "(III)I" } : Jvm.MethodName)) ∈ lw_all := lw_g (lw_at lw_m5 45 rfl) rfl
theorem q1102 : (Jvm.Cond.methodLink "java/lang/String" (27 : Nat) ({ cls := "java/lang/String", name := "<init>", desc := "([CIILjava/lang/Void;)V" } : Jvm.MethodName)) ∈ lw_all := lw_g (lw_at lw_m5 46 rfl) rfl
theorem q1103 : (Jvm.Cond.instanceMethod ({ cls := "java/lang/String", name := "<init>", desc := "([CIILjava/lang/Void;)V" } : Jvm.MethodName)) ∈ lw_all := lw_g (lw_at lw_m5 47 rfl) rfl
theorem q1104 : (Jvm.Cond.code ({ cls := "java/lang/String", name := "<init>", desc := "([CIILjava/lang/Void;)V" } : Jvm.MethodName) prog_36_method_149_code (6 : Nat) (Option.none : Option Jvm.ClassFile.FieldType)) ∈ lw_all := lw_g (lw_at lw_m5 48 rfl) rfl
theorem q1105 : (Jvm.Cond.stringRef "java/lang/String" (7 : Nat) "") ∈ lw_tbl := lw_at lw_m5 49 rfl
theorem q1106 : (Jvm.Cond.methodLink "java/lang/String" (177 : Nat) ({ cls := "java/lang/StringUTF16", name := "compress", desc := "([CII)[B" } : Jvm.MethodName)) ∈ lw_all := lw_g (lw_at lw_m5 50 rfl) rfl
theorem q1116 : (Jvm.Cond.methodLink "java/lang/String" (180 : Nat) ({ cls := "java/lang/StringUTF16", name := "toBytes", desc := "([CII)[B" } : Jvm.MethodName)) ∈ lw_all := lw_g (lw_at lw_m5 60 rfl) rfl
theorem q1236 : (Jvm.Cond.selects "java/lang/String" ({ cls := "java/lang/Object", name := "equals", desc := "(Ljava/lang/Object;)Z" } : Jvm.MethodName) ({ cls := "java/lang/String", name := "equals", desc := "(Ljava/lang/Object;)Z" } : Jvm.MethodName)) ∈ lw_all := lw_g (lw_at lw_m5 180 rfl) rfl
theorem q1341 : (Jvm.Cond.instanceMethod ({ cls := "java/lang/String", name := "substring", desc := "(II)Ljava/lang/String;" } : Jvm.MethodName)) ∈ lw_all := lw_g (lw_at lw_m6 45 rfl) rfl
theorem q1342 : (Jvm.Cond.selects "java/lang/String" ({ cls := "java/lang/String", name := "substring", desc := "(II)Ljava/lang/String;" } : Jvm.MethodName) ({ cls := "java/lang/String", name := "substring", desc := "(II)Ljava/lang/String;" } : Jvm.MethodName)) ∈ lw_all := lw_g (lw_at lw_m6 46 rfl) rfl
theorem q1343 : (Jvm.Cond.code ({ cls := "java/lang/String", name := "substring", desc := "(II)Ljava/lang/String;" } : Jvm.MethodName) prog_36_method_92_code (5 : Nat) (Option.some (Jvm.ClassFile.FieldType.object "java/lang/String"))) ∈ lw_all := lw_g (lw_at lw_m6 47 rfl) rfl
theorem q1344 : (Jvm.Cond.methodLink "java/lang/String" (505 : Nat) ({ cls := "java/lang/String", name := "length", desc := "()I" } : Jvm.MethodName)) ∈ lw_all := lw_g (lw_at lw_m6 48 rfl) rfl
theorem q1345 : (Jvm.Cond.methodLink "java/lang/String" (521 : Nat) ({ cls := "java/lang/String", name := "checkBoundsBeginEnd", desc := "(III)V" } : Jvm.MethodName)) ∈ lw_all := lw_g (lw_at lw_m6 49 rfl) rfl
theorem q1346 : (Jvm.Cond.methodLink "java/lang/String" (685 : Nat) ({ cls := "java/lang/StringLatin1", name := "newString", desc := "([BII)Ljava/lang/String;" } : Jvm.MethodName)) ∈ lw_all := lw_g (lw_at lw_m6 50 rfl) rfl
theorem q1353 : (Jvm.Cond.instanceMethod ({ cls := "java/lang/String", name := "<init>", desc := "([BB)V" } : Jvm.MethodName)) ∈ lw_all := lw_g (lw_at lw_m6 57 rfl) rfl
theorem q1354 : (Jvm.Cond.code ({ cls := "java/lang/String", name := "<init>", desc := "([BB)V" } : Jvm.MethodName) prog_36_method_151_code (3 : Nat) (Option.none : Option Jvm.ClassFile.FieldType)) ∈ lw_all := lw_g (lw_at lw_m6 58 rfl) rfl
theorem q1355 : (Jvm.Cond.methodLink "java/lang/String" (689 : Nat) ({ cls := "java/lang/StringUTF16", name := "newString", desc := "([BII)Ljava/lang/String;" } : Jvm.MethodName)) ∈ lw_all := lw_g (lw_at lw_m6 59 rfl) rfl
theorem q2336 : (Jvm.Cond.castable "java/lang/String" "java/lang/Object") ∈ lw_tbl := lw_at lw_m10 80 rfl
theorem in_J13 : ∀ w ∈ wsJ130, w ∈ lw_all := lw_in wsJ130 [970, 972, 974, 976] (by decide +kernel) (by decide +kernel)
/-! jdk/internal/util/Preconditions -/
set_option maxRecDepth 100000
def RJ14 : String := "jdk/internal/util/Preconditions"
abbrev cJ14_checkIndex : ByteArray := prog_58_method_11_code
def yJ14_checkIndex : MethodName := ⟨RJ14, "checkIndex", "(IILjava/util/function/BiFunction;)I"⟩
def dkwJ14_checkIndex_0 : List UInt8 := [26, 155, 0, 8, 26, 27, 161, 0, 10, 44, 26, 27, 184, 0, 95, 191, 26, 172]
abbrev dktJ14_checkIndex_0 : List UInt8 := dkwJ14_checkIndex_0 ++ []
theorem dksJ14_checkIndex_0 : cJ14_checkIndex.data.toList.drop 0 = dktJ14_checkIndex_0 := by decide +kernel
theorem dJ14_checkIndex_0 : decode cJ14_checkIndex 0 = .ok (.iload_n 0, 1) := dk_26 (dk_at dksJ14_checkIndex_0 0 rfl rfl)
theorem dJ14_checkIndex_1 : decode cJ14_checkIndex 1 = .ok (.ifCond .lt 8, 3) := dk_155 0 8 (dk_at dksJ14_checkIndex_0 1 rfl rfl)
theorem dJ14_checkIndex_4 : decode cJ14_checkIndex 4 = .ok (.iload_n 0, 1) := dk_26 (dk_at dksJ14_checkIndex_0 4 rfl rfl)
theorem dJ14_checkIndex_5 : decode cJ14_checkIndex 5 = .ok (.iload_n 1, 1) := dk_27 (dk_at dksJ14_checkIndex_0 5 rfl rfl)
theorem dJ14_checkIndex_6 : decode cJ14_checkIndex 6 = .ok (.if_icmp .lt 10, 3) := dk_161 0 10 (dk_at dksJ14_checkIndex_0 6 rfl rfl)
theorem dJ14_checkIndex_9 : decode cJ14_checkIndex 9 = .ok (.aload_n 2, 1) := dk_44 (dk_at dksJ14_checkIndex_0 9 rfl rfl)
theorem dJ14_checkIndex_10 : decode cJ14_checkIndex 10 = .ok (.iload_n 0, 1) := dk_26 (dk_at dksJ14_checkIndex_0 10 rfl rfl)
theorem dJ14_checkIndex_11 : decode cJ14_checkIndex 11 = .ok (.iload_n 1, 1) := dk_27 (dk_at dksJ14_checkIndex_0 11 rfl rfl)
theorem dJ14_checkIndex_12 : decode cJ14_checkIndex 12 = .ok (.invokestatic 95, 3) := dk_184 0 95 (dk_at dksJ14_checkIndex_0 12 rfl rfl)
theorem dJ14_checkIndex_15 : decode cJ14_checkIndex 15 = .ok (.athrow, 1) := dk_191 (dk_at dksJ14_checkIndex_0 15 rfl rfl)
theorem dJ14_checkIndex_16 : decode cJ14_checkIndex 16 = .ok (.iload_n 0, 1) := dk_26 (dk_at dksJ14_checkIndex_0 16 rfl rfl)
theorem dJ14_checkIndex_17 : decode cJ14_checkIndex 17 = .ok (.ireturn, 1) := dk_172 (dk_at dksJ14_checkIndex_0 17 rfl rfl)
abbrev cJ14_checkFromToIndex : ByteArray := prog_58_method_12_code
def yJ14_checkFromToIndex : MethodName := ⟨RJ14, "checkFromToIndex", "(IIILjava/util/function/BiFunction;)I"⟩
def dkwJ14_checkFromToIndex_0 : List UInt8 := [26, 155, 0, 13, 26, 27, 163, 0, 8, 27, 28, 164, 0, 11, 45, 26, 27, 28, 184, 0, 99, 191, 26, 172]
abbrev dktJ14_checkFromToIndex_0 : List UInt8 := dkwJ14_checkFromToIndex_0 ++ []
theorem dksJ14_checkFromToIndex_0 : cJ14_checkFromToIndex.data.toList.drop 0 = dktJ14_checkFromToIndex_0 := by decide +kernel
theorem dJ14_checkFromToIndex_0 : decode cJ14_checkFromToIndex 0 = .ok (.iload_n 0, 1) := dk_26 (dk_at dksJ14_checkFromToIndex_0 0 rfl rfl)
theorem dJ14_checkFromToIndex_1 : decode cJ14_checkFromToIndex 1 = .ok (.ifCond .lt 13, 3) := dk_155 0 13 (dk_at dksJ14_checkFromToIndex_0 1 rfl rfl)
theorem dJ14_checkFromToIndex_4 : decode cJ14_checkFromToIndex 4 = .ok (.iload_n 0, 1) := dk_26 (dk_at dksJ14_checkFromToIndex_0 4 rfl rfl)
theorem dJ14_checkFromToIndex_5 : decode cJ14_checkFromToIndex 5 = .ok (.iload_n 1, 1) := dk_27 (dk_at dksJ14_checkFromToIndex_0 5 rfl rfl)
theorem dJ14_checkFromToIndex_6 : decode cJ14_checkFromToIndex 6 = .ok (.if_icmp .gt 8, 3) := dk_163 0 8 (dk_at dksJ14_checkFromToIndex_0 6 rfl rfl)
theorem dJ14_checkFromToIndex_9 : decode cJ14_checkFromToIndex 9 = .ok (.iload_n 1, 1) := dk_27 (dk_at dksJ14_checkFromToIndex_0 9 rfl rfl)
theorem dJ14_checkFromToIndex_10 : decode cJ14_checkFromToIndex 10 = .ok (.iload_n 2, 1) := dk_28 (dk_at dksJ14_checkFromToIndex_0 10 rfl rfl)
theorem dJ14_checkFromToIndex_11 : decode cJ14_checkFromToIndex 11 = .ok (.if_icmp .le 11, 3) := dk_164 0 11 (dk_at dksJ14_checkFromToIndex_0 11 rfl rfl)
theorem dJ14_checkFromToIndex_14 : decode cJ14_checkFromToIndex 14 = .ok (.aload_n 3, 1) := dk_45 (dk_at dksJ14_checkFromToIndex_0 14 rfl rfl)
theorem dJ14_checkFromToIndex_15 : decode cJ14_checkFromToIndex 15 = .ok (.iload_n 0, 1) := dk_26 (dk_at dksJ14_checkFromToIndex_0 15 rfl rfl)
theorem dJ14_checkFromToIndex_16 : decode cJ14_checkFromToIndex 16 = .ok (.iload_n 1, 1) := dk_27 (dk_at dksJ14_checkFromToIndex_0 16 rfl rfl)
theorem dJ14_checkFromToIndex_17 : decode cJ14_checkFromToIndex 17 = .ok (.iload_n 2, 1) := dk_28 (dk_at dksJ14_checkFromToIndex_0 17 rfl rfl)
theorem dJ14_checkFromToIndex_18 : decode cJ14_checkFromToIndex 18 = .ok (.invokestatic 99, 3) := dk_184 0 99 (dk_at dksJ14_checkFromToIndex_0 18 rfl rfl)
theorem dJ14_checkFromToIndex_21 : decode cJ14_checkFromToIndex 21 = .ok (.athrow, 1) := dk_191 (dk_at dksJ14_checkFromToIndex_0 21 rfl rfl)
theorem dJ14_checkFromToIndex_22 : decode cJ14_checkFromToIndex 22 = .ok (.iload_n 0, 1) := dk_26 (dk_at dksJ14_checkFromToIndex_0 22 rfl rfl)
theorem dJ14_checkFromToIndex_23 : decode cJ14_checkFromToIndex 23 = .ok (.ireturn, 1) := dk_172 (dk_at dksJ14_checkFromToIndex_0 23 rfl rfl)
abbrev cJ14_checkFromIndexSize : ByteArray := prog_58_method_13_code
def yJ14_checkFromIndexSize : MethodName := ⟨RJ14, "checkFromIndexSize", "(IIILjava/util/function/BiFunction;)I"⟩
def dkwJ14_checkFromIndexSize_1 : List UInt8 := [172]
abbrev dktJ14_checkFromIndexSize_1 : List UInt8 := dkwJ14_checkFromIndexSize_1 ++ []
def dkwJ14_checkFromIndexSize_0 : List UInt8 := [28, 26, 128, 27, 128, 155, 0, 10, 27, 28, 26, 100, 164, 0, 11, 45, 26, 27, 28, 184, 0, 103, 191, 26]
abbrev dktJ14_checkFromIndexSize_0 : List UInt8 := dkwJ14_checkFromIndexSize_0 ++ dktJ14_checkFromIndexSize_1
theorem dksJ14_checkFromIndexSize_0 : cJ14_checkFromIndexSize.data.toList.drop 0 = dktJ14_checkFromIndexSize_0 := by decide +kernel
theorem dksJ14_checkFromIndexSize_1 : cJ14_checkFromIndexSize.data.toList.drop 24 = dktJ14_checkFromIndexSize_1 := dk_seg dksJ14_checkFromIndexSize_0 24 rfl rfl
theorem dJ14_checkFromIndexSize_0 : decode cJ14_checkFromIndexSize 0 = .ok (.iload_n 2, 1) := dk_28 (dk_at dksJ14_checkFromIndexSize_0 0 rfl rfl)
theorem dJ14_checkFromIndexSize_1 : decode cJ14_checkFromIndexSize 1 = .ok (.iload_n 0, 1) := dk_26 (dk_at dksJ14_checkFromIndexSize_0 1 rfl rfl)
theorem dJ14_checkFromIndexSize_2 : decode cJ14_checkFromIndexSize 2 = .ok (.ior, 1) := dk_128 (dk_at dksJ14_checkFromIndexSize_0 2 rfl rfl)
theorem dJ14_checkFromIndexSize_3 : decode cJ14_checkFromIndexSize 3 = .ok (.iload_n 1, 1) := dk_27 (dk_at dksJ14_checkFromIndexSize_0 3 rfl rfl)
theorem dJ14_checkFromIndexSize_4 : decode cJ14_checkFromIndexSize 4 = .ok (.ior, 1) := dk_128 (dk_at dksJ14_checkFromIndexSize_0 4 rfl rfl)
theorem dJ14_checkFromIndexSize_5 : decode cJ14_checkFromIndexSize 5 = .ok (.ifCond .lt 10, 3) := dk_155 0 10 (dk_at dksJ14_checkFromIndexSize_0 5 rfl rfl)
theorem dJ14_checkFromIndexSize_8 : decode cJ14_checkFromIndexSize 8 = .ok (.iload_n 1, 1) := dk_27 (dk_at dksJ14_checkFromIndexSize_0 8 rfl rfl)
theorem dJ14_checkFromIndexSize_9 : decode cJ14_checkFromIndexSize 9 = .ok (.iload_n 2, 1) := dk_28 (dk_at dksJ14_checkFromIndexSize_0 9 rfl rfl)
theorem dJ14_checkFromIndexSize_10 : decode cJ14_checkFromIndexSize 10 = .ok (.iload_n 0, 1) := dk_26 (dk_at dksJ14_checkFromIndexSize_0 10 rfl rfl)
theorem dJ14_checkFromIndexSize_11 : decode cJ14_checkFromIndexSize 11 = .ok (.isub, 1) := dk_100 (dk_at dksJ14_checkFromIndexSize_0 11 rfl rfl)
theorem dJ14_checkFromIndexSize_12 : decode cJ14_checkFromIndexSize 12 = .ok (.if_icmp .le 11, 3) := dk_164 0 11 (dk_at dksJ14_checkFromIndexSize_0 12 rfl rfl)
theorem dJ14_checkFromIndexSize_15 : decode cJ14_checkFromIndexSize 15 = .ok (.aload_n 3, 1) := dk_45 (dk_at dksJ14_checkFromIndexSize_0 15 rfl rfl)
theorem dJ14_checkFromIndexSize_16 : decode cJ14_checkFromIndexSize 16 = .ok (.iload_n 0, 1) := dk_26 (dk_at dksJ14_checkFromIndexSize_0 16 rfl rfl)
theorem dJ14_checkFromIndexSize_17 : decode cJ14_checkFromIndexSize 17 = .ok (.iload_n 1, 1) := dk_27 (dk_at dksJ14_checkFromIndexSize_0 17 rfl rfl)
theorem dJ14_checkFromIndexSize_18 : decode cJ14_checkFromIndexSize 18 = .ok (.iload_n 2, 1) := dk_28 (dk_at dksJ14_checkFromIndexSize_0 18 rfl rfl)
theorem dJ14_checkFromIndexSize_19 : decode cJ14_checkFromIndexSize 19 = .ok (.invokestatic 103, 3) := dk_184 0 103 (dk_at dksJ14_checkFromIndexSize_0 19 rfl rfl)
theorem dJ14_checkFromIndexSize_22 : decode cJ14_checkFromIndexSize 22 = .ok (.athrow, 1) := dk_191 (dk_at dksJ14_checkFromIndexSize_0 22 rfl rfl)
theorem dJ14_checkFromIndexSize_23 : decode cJ14_checkFromIndexSize 23 = .ok (.iload_n 0, 1) := dk_26 (dk_at dksJ14_checkFromIndexSize_0 23 rfl rfl)
theorem dJ14_checkFromIndexSize_24 : decode cJ14_checkFromIndexSize 24 = .ok (.ireturn, 1) := dk_172 (dk_at dksJ14_checkFromIndexSize_1 0 rfl rfl)
theorem q117 : (Jvm.Cond.initialized "jdk/internal/util/Preconditions") ∈ lw_all := lw_g (lw_at lw_m1 21 rfl) rfl
theorem q478 : (Jvm.Cond.static ({ cls := "jdk/internal/util/Preconditions", name := "checkIndex", desc := "(IILjava/util/function/BiFunction;)I" } : Jvm.MethodName)) ∈ lw_all := lw_g (lw_at lw_m2 142 rfl) rfl
theorem q479 : (Jvm.Cond.code ({ cls := "jdk/internal/util/Preconditions", name := "checkIndex", desc := "(IILjava/util/function/BiFunction;)I" } : Jvm.MethodName) prog_58_method_11_code (3 : Nat) (Option.some Jvm.ClassFile.FieldType.int)) ∈ lw_all := lw_g (lw_at lw_m2 143 rfl) rfl
theorem q627 : (Jvm.Cond.laysStatic "jdk/internal/util/Preconditions" "SIOOBE_FORMATTER" "Ljava/util/function/BiFunction;") ∈ lw_tbl := lw_at lw_m3 51 rfl
theorem q827 : (Jvm.Cond.static ({ cls := "jdk/internal/util/Preconditions", name := "checkFromToIndex", desc := "(IIILjava/util/function/BiFunction;)I" } : Jvm.MethodName)) ∈ lw_all := lw_g (lw_at lw_m4 11 rfl) rfl
theorem q828 : (Jvm.Cond.code ({ cls := "jdk/internal/util/Preconditions", name := "checkFromToIndex", desc := "(IIILjava/util/function/BiFunction;)I" } : Jvm.MethodName) prog_58_method_12_code (4 : Nat) (Option.some Jvm.ClassFile.FieldType.int)) ∈ lw_all := lw_g (lw_at lw_m4 12 rfl) rfl
theorem q859 : (Jvm.Cond.static ({ cls := "jdk/internal/util/Preconditions", name := "checkFromIndexSize", desc := "(IIILjava/util/function/BiFunction;)I" } : Jvm.MethodName)) ∈ lw_all := lw_g (lw_at lw_m4 43 rfl) rfl
theorem q860 : (Jvm.Cond.code ({ cls := "jdk/internal/util/Preconditions", name := "checkFromIndexSize", desc := "(IIILjava/util/function/BiFunction;)I" } : Jvm.MethodName) prog_58_method_13_code (4 : Nat) (Option.some Jvm.ClassFile.FieldType.int)) ∈ lw_all := lw_g (lw_at lw_m4 44 rfl) rfl
/-! java/lang/StringUTF16 -/
set_option maxRecDepth 100000
def RJ15 : String := "java/lang/StringUTF16"
abbrev cJ15_charAt : ByteArray := prog_39_method_83_code
def yJ15_charAt : MethodName := ⟨RJ15, "charAt", "([BI)C"⟩
def dkwJ15_charAt_0 : List UInt8 := [27, 42, 184, 0, 67, 42, 27, 184, 0, 71, 172]
abbrev dktJ15_charAt_0 : List UInt8 := dkwJ15_charAt_0 ++ []
theorem dksJ15_charAt_0 : cJ15_charAt.data.toList.drop 0 = dktJ15_charAt_0 := by decide +kernel
theorem dJ15_charAt_0 : decode cJ15_charAt 0 = .ok (.iload_n 1, 1) := dk_27 (dk_at dksJ15_charAt_0 0 rfl rfl)
theorem dJ15_charAt_1 : decode cJ15_charAt 1 = .ok (.aload_n 0, 1) := dk_42 (dk_at dksJ15_charAt_0 1 rfl rfl)
theorem dJ15_charAt_2 : decode cJ15_charAt 2 = .ok (.invokestatic 67, 3) := dk_184 0 67 (dk_at dksJ15_charAt_0 2 rfl rfl)
theorem dJ15_charAt_5 : decode cJ15_charAt 5 = .ok (.aload_n 0, 1) := dk_42 (dk_at dksJ15_charAt_0 5 rfl rfl)
theorem dJ15_charAt_6 : decode cJ15_charAt 6 = .ok (.iload_n 1, 1) := dk_27 (dk_at dksJ15_charAt_0 6 rfl rfl)
theorem dJ15_charAt_7 : decode cJ15_charAt 7 = .ok (.invokestatic 71, 3) := dk_184 0 71 (dk_at dksJ15_charAt_0 7 rfl rfl)
theorem dJ15_charAt_10 : decode cJ15_charAt 10 = .ok (.ireturn, 1) := dk_172 (dk_at dksJ15_charAt_0 10 rfl rfl)
abbrev cJ15_checkIndex : ByteArray := prog_39_method_91_code
def yJ15_checkIndex : MethodName := ⟨RJ15, "checkIndex", "(I[B)V"⟩
def dkwJ15_checkIndex_0 : List UInt8 := [26, 43, 184, 0, 48, 184, 1, 158, 177]
abbrev dktJ15_checkIndex_0 : List UInt8 := dkwJ15_checkIndex_0 ++ []
theorem dksJ15_checkIndex_0 : cJ15_checkIndex.data.toList.drop 0 = dktJ15_checkIndex_0 := by decide +kernel
theorem dJ15_checkIndex_0 : decode cJ15_checkIndex 0 = .ok (.iload_n 0, 1) := dk_26 (dk_at dksJ15_checkIndex_0 0 rfl rfl)
theorem dJ15_checkIndex_1 : decode cJ15_checkIndex 1 = .ok (.aload_n 1, 1) := dk_43 (dk_at dksJ15_checkIndex_0 1 rfl rfl)
theorem dJ15_checkIndex_2 : decode cJ15_checkIndex 2 = .ok (.invokestatic 48, 3) := dk_184 0 48 (dk_at dksJ15_checkIndex_0 2 rfl rfl)
theorem dJ15_checkIndex_5 : decode cJ15_checkIndex 5 = .ok (.invokestatic 414, 3) := dk_184 1 158 (dk_at dksJ15_checkIndex_0 5 rfl rfl)
theorem dJ15_checkIndex_8 : decode cJ15_checkIndex 8 = .ok (.return_, 1) := dk_177 (dk_at dksJ15_checkIndex_0 8 rfl rfl)
abbrev cJ15_length : ByteArray := prog_39_method_6_code
def yJ15_length : MethodName := ⟨RJ15, "length", "([B)I"⟩
def dkwJ15_length_0 : List UInt8 := [42, 190, 4, 122, 172]
abbrev dktJ15_length_0 : List UInt8 := dkwJ15_length_0 ++ []
theorem dksJ15_length_0 : cJ15_length.data.toList.drop 0 = dktJ15_length_0 := by decide +kernel
theorem dJ15_length_0 : decode cJ15_length 0 = .ok (.aload_n 0, 1) := dk_42 (dk_at dksJ15_length_0 0 rfl rfl)
theorem dJ15_length_1 : decode cJ15_length 1 = .ok (.arraylength, 1) := dk_190 (dk_at dksJ15_length_0 1 rfl rfl)
theorem dJ15_length_2 : decode cJ15_length 2 = .ok (.iconst 1, 1) := dk_4 (dk_at dksJ15_length_0 2 rfl rfl)
theorem dJ15_length_3 : decode cJ15_length 3 = .ok (.ishr, 1) := dk_122 (dk_at dksJ15_length_0 3 rfl rfl)
theorem dJ15_length_4 : decode cJ15_length 4 = .ok (.ireturn, 1) := dk_172 (dk_at dksJ15_length_0 4 rfl rfl)
abbrev cJ15_getChar : ByteArray := prog_39_method_5_code
def yJ15_getChar : MethodName := ⟨RJ15, "getChar", "([BI)C"⟩
def dkwJ15_getChar_2 : List UInt8 := [51, 17, 0, 255, 126, 178, 0, 63, 120, 128, 146, 172]
abbrev dktJ15_getChar_2 : List UInt8 := dkwJ15_getChar_2 ++ []
def dkwJ15_getChar_1 : List UInt8 := [183, 0, 56, 191, 27, 4, 120, 60, 42, 27, 132, 1, 1, 51, 17, 0, 255, 126, 178, 0, 59, 120, 42, 27]
abbrev dktJ15_getChar_1 : List UInt8 := dkwJ15_getChar_1 ++ dktJ15_getChar_2
def dkwJ15_getChar_0 : List UInt8 := [178, 0, 44, 154, 0, 25, 27, 155, 0, 11, 27, 42, 184, 0, 48, 161, 0, 13, 187, 0, 52, 89, 18, 54]
abbrev dktJ15_getChar_0 : List UInt8 := dkwJ15_getChar_0 ++ dktJ15_getChar_1
theorem dksJ15_getChar_0 : cJ15_getChar.data.toList.drop 0 = dktJ15_getChar_0 := by decide +kernel
theorem dksJ15_getChar_1 : cJ15_getChar.data.toList.drop 24 = dktJ15_getChar_1 := dk_seg dksJ15_getChar_0 24 rfl rfl
theorem dksJ15_getChar_2 : cJ15_getChar.data.toList.drop 48 = dktJ15_getChar_2 := dk_seg dksJ15_getChar_1 24 rfl rfl
theorem dJ15_getChar_0 : decode cJ15_getChar 0 = .ok (.getstatic 44, 3) := dk_178 0 44 (dk_at dksJ15_getChar_0 0 rfl rfl)
theorem dJ15_getChar_3 : decode cJ15_getChar 3 = .ok (.ifCond .ne 25, 3) := dk_154 0 25 (dk_at dksJ15_getChar_0 3 rfl rfl)
theorem dJ15_getChar_6 : decode cJ15_getChar 6 = .ok (.iload_n 1, 1) := dk_27 (dk_at dksJ15_getChar_0 6 rfl rfl)
theorem dJ15_getChar_7 : decode cJ15_getChar 7 = .ok (.ifCond .lt 11, 3) := dk_155 0 11 (dk_at dksJ15_getChar_0 7 rfl rfl)
theorem dJ15_getChar_10 : decode cJ15_getChar 10 = .ok (.iload_n 1, 1) := dk_27 (dk_at dksJ15_getChar_0 10 rfl rfl)
theorem dJ15_getChar_11 : decode cJ15_getChar 11 = .ok (.aload_n 0, 1) := dk_42 (dk_at dksJ15_getChar_0 11 rfl rfl)
theorem dJ15_getChar_12 : decode cJ15_getChar 12 = .ok (.invokestatic 48, 3) := dk_184 0 48 (dk_at dksJ15_getChar_0 12 rfl rfl)
theorem dJ15_getChar_15 : decode cJ15_getChar 15 = .ok (.if_icmp .lt 13, 3) := dk_161 0 13 (dk_at dksJ15_getChar_0 15 rfl rfl)
theorem dJ15_getChar_18 : decode cJ15_getChar 18 = .ok (.new 52, 3) := dk_187 0 52 (dk_at dksJ15_getChar_0 18 rfl rfl)
theorem dJ15_getChar_21 : decode cJ15_getChar 21 = .ok (.dup, 1) := dk_89 (dk_at dksJ15_getChar_0 21 rfl rfl)
theorem dJ15_getChar_22 : decode cJ15_getChar 22 = .ok (.ldc 54, 2) := dk_18 54 (dk_at dksJ15_getChar_0 22 rfl rfl)
theorem dJ15_getChar_24 : decode cJ15_getChar 24 = .ok (.invokespecial 56, 3) := dk_183 0 56 (dk_at dksJ15_getChar_1 0 rfl rfl)
theorem dJ15_getChar_27 : decode cJ15_getChar 27 = .ok (.athrow, 1) := dk_191 (dk_at dksJ15_getChar_1 3 rfl rfl)
theorem dJ15_getChar_28 : decode cJ15_getChar 28 = .ok (.iload_n 1, 1) := dk_27 (dk_at dksJ15_getChar_1 4 rfl rfl)
theorem dJ15_getChar_29 : decode cJ15_getChar 29 = .ok (.iconst 1, 1) := dk_4 (dk_at dksJ15_getChar_1 5 rfl rfl)
theorem dJ15_getChar_30 : decode cJ15_getChar 30 = .ok (.ishl, 1) := dk_120 (dk_at dksJ15_getChar_1 6 rfl rfl)
theorem dJ15_getChar_31 : decode cJ15_getChar 31 = .ok (.istore_n 1, 1) := dk_60 (dk_at dksJ15_getChar_1 7 rfl rfl)
theorem dJ15_getChar_32 : decode cJ15_getChar 32 = .ok (.aload_n 0, 1) := dk_42 (dk_at dksJ15_getChar_1 8 rfl rfl)
theorem dJ15_getChar_33 : decode cJ15_getChar 33 = .ok (.iload_n 1, 1) := dk_27 (dk_at dksJ15_getChar_1 9 rfl rfl)
theorem dJ15_getChar_34 : decode cJ15_getChar 34 = .ok (.iinc 1 1, 3) := dk_132 1 1 (dk_at dksJ15_getChar_1 10 rfl rfl)
theorem dJ15_getChar_37 : decode cJ15_getChar 37 = .ok (.baload, 1) := dk_51 (dk_at dksJ15_getChar_1 13 rfl rfl)
theorem dJ15_getChar_38 : decode cJ15_getChar 38 = .ok (.sipush 255, 3) := dk_17 0 255 (dk_at dksJ15_getChar_1 14 rfl rfl)
theorem dJ15_getChar_41 : decode cJ15_getChar 41 = .ok (.iand, 1) := dk_126 (dk_at dksJ15_getChar_1 17 rfl rfl)
theorem dJ15_getChar_42 : decode cJ15_getChar 42 = .ok (.getstatic 59, 3) := dk_178 0 59 (dk_at dksJ15_getChar_1 18 rfl rfl)
theorem dJ15_getChar_45 : decode cJ15_getChar 45 = .ok (.ishl, 1) := dk_120 (dk_at dksJ15_getChar_1 21 rfl rfl)
theorem dJ15_getChar_46 : decode cJ15_getChar 46 = .ok (.aload_n 0, 1) := dk_42 (dk_at dksJ15_getChar_1 22 rfl rfl)
theorem dJ15_getChar_47 : decode cJ15_getChar 47 = .ok (.iload_n 1, 1) := dk_27 (dk_at dksJ15_getChar_1 23 rfl rfl)
theorem dJ15_getChar_48 : decode cJ15_getChar 48 = .ok (.baload, 1) := dk_51 (dk_at dksJ15_getChar_2 0 rfl rfl)
theorem dJ15_getChar_49 : decode cJ15_getChar 49 = .ok (.sipush 255, 3) := dk_17 0 255 (dk_at dksJ15_getChar_2 1 rfl rfl)
theorem dJ15_getChar_52 : decode cJ15_getChar 52 = .ok (.iand, 1) := dk_126 (dk_at dksJ15_getChar_2 4 rfl rfl)
theorem dJ15_getChar_53 : decode cJ15_getChar 53 = .ok (.getstatic 63, 3) := dk_178 0 63 (dk_at dksJ15_getChar_2 5 rfl rfl)
theorem dJ15_getChar_56 : decode cJ15_getChar 56 = .ok (.ishl, 1) := dk_120 (dk_at dksJ15_getChar_2 8 rfl rfl)
theorem dJ15_getChar_57 : decode cJ15_getChar 57 = .ok (.ior, 1) := dk_128 (dk_at dksJ15_getChar_2 9 rfl rfl)
theorem dJ15_getChar_58 : decode cJ15_getChar 58 = .ok (.i2c, 1) := dk_146 (dk_at dksJ15_getChar_2 10 rfl rfl)
theorem dJ15_getChar_59 : decode cJ15_getChar 59 = .ok (.ireturn, 1) := dk_172 (dk_at dksJ15_getChar_2 11 rfl rfl)
abbrev cJ15_newBytesFor : ByteArray := prog_39_method_2_code
def yJ15_newBytesFor : MethodName := ⟨RJ15, "newBytesFor", "(I)[B"⟩
def dkwJ15_newBytesFor_0 : List UInt8 := [26, 184, 0, 11, 188, 8, 176]
abbrev dktJ15_newBytesFor_0 : List UInt8 := dkwJ15_newBytesFor_0 ++ []
theorem dksJ15_newBytesFor_0 : cJ15_newBytesFor.data.toList.drop 0 = dktJ15_newBytesFor_0 := by decide +kernel
theorem dJ15_newBytesFor_0 : decode cJ15_newBytesFor 0 = .ok (.iload_n 0, 1) := dk_26 (dk_at dksJ15_newBytesFor_0 0 rfl rfl)
theorem dJ15_newBytesFor_1 : decode cJ15_newBytesFor 1 = .ok (.invokestatic 11, 3) := dk_184 0 11 (dk_at dksJ15_newBytesFor_0 1 rfl rfl)
theorem dJ15_newBytesFor_4 : decode cJ15_newBytesFor 4 = .ok (.newarray .byte, 2) := dk_188_8 (dk_at dksJ15_newBytesFor_0 4 rfl rfl)
theorem dJ15_newBytesFor_6 : decode cJ15_newBytesFor 6 = .ok (.areturn, 1) := dk_176 (dk_at dksJ15_newBytesFor_0 6 rfl rfl)
abbrev cJ15_newBytesLength : ByteArray := prog_39_method_3_code
def yJ15_newBytesLength : MethodName := ⟨RJ15, "newBytesLength", "(I)I"⟩
def dkwJ15_newBytesLength_2 : List UInt8 := [182, 0, 32, 182, 0, 37, 183, 0, 41, 191, 26, 4, 120, 172]
abbrev dktJ15_newBytesLength_2 : List UInt8 := dkwJ15_newBytesLength_2 ++ []
def dkwJ15_newBytesLength_1 : List UInt8 := [187, 0, 23, 89, 183, 0, 25, 18, 26, 182, 0, 28, 26, 182, 0, 32, 18, 35, 182, 0, 28, 18, 20]
abbrev dktJ15_newBytesLength_1 : List UInt8 := dkwJ15_newBytesLength_1 ++ dktJ15_newBytesLength_2
def dkwJ15_newBytesLength_0 : List UInt8 := [26, 156, 0, 11, 187, 0, 17, 89, 183, 0, 19, 191, 26, 18, 20, 161, 0, 40, 187, 0, 21, 89]
abbrev dktJ15_newBytesLength_0 : List UInt8 := dkwJ15_newBytesLength_0 ++ dktJ15_newBytesLength_1
theorem dksJ15_newBytesLength_0 : cJ15_newBytesLength.data.toList.drop 0 = dktJ15_newBytesLength_0 := by decide +kernel
theorem dksJ15_newBytesLength_1 : cJ15_newBytesLength.data.toList.drop 22 = dktJ15_newBytesLength_1 := dk_seg dksJ15_newBytesLength_0 22 rfl rfl
theorem dksJ15_newBytesLength_2 : cJ15_newBytesLength.data.toList.drop 45 = dktJ15_newBytesLength_2 := dk_seg dksJ15_newBytesLength_1 23 rfl rfl
theorem dJ15_newBytesLength_0 : decode cJ15_newBytesLength 0 = .ok (.iload_n 0, 1) := dk_26 (dk_at dksJ15_newBytesLength_0 0 rfl rfl)
theorem dJ15_newBytesLength_1 : decode cJ15_newBytesLength 1 = .ok (.ifCond .ge 11, 3) := dk_156 0 11 (dk_at dksJ15_newBytesLength_0 1 rfl rfl)
theorem dJ15_newBytesLength_4 : decode cJ15_newBytesLength 4 = .ok (.new 17, 3) := dk_187 0 17 (dk_at dksJ15_newBytesLength_0 4 rfl rfl)
theorem dJ15_newBytesLength_7 : decode cJ15_newBytesLength 7 = .ok (.dup, 1) := dk_89 (dk_at dksJ15_newBytesLength_0 7 rfl rfl)
theorem dJ15_newBytesLength_8 : decode cJ15_newBytesLength 8 = .ok (.invokespecial 19, 3) := dk_183 0 19 (dk_at dksJ15_newBytesLength_0 8 rfl rfl)
theorem dJ15_newBytesLength_11 : decode cJ15_newBytesLength 11 = .ok (.athrow, 1) := dk_191 (dk_at dksJ15_newBytesLength_0 11 rfl rfl)
theorem dJ15_newBytesLength_12 : decode cJ15_newBytesLength 12 = .ok (.iload_n 0, 1) := dk_26 (dk_at dksJ15_newBytesLength_0 12 rfl rfl)
theorem dJ15_newBytesLength_13 : decode cJ15_newBytesLength 13 = .ok (.ldc 20, 2) := dk_18 20 (dk_at dksJ15_newBytesLength_0 13 rfl rfl)
theorem dJ15_newBytesLength_15 : decode cJ15_newBytesLength 15 = .ok (.if_icmp .lt 40, 3) := dk_161 0 40 (dk_at dksJ15_newBytesLength_0 15 rfl rfl)
theorem dJ15_newBytesLength_18 : decode cJ15_newBytesLength 18 = .ok (.new 21, 3) := dk_187 0 21 (dk_at dksJ15_newBytesLength_0 18 rfl rfl)
theorem dJ15_newBytesLength_21 : decode cJ15_newBytesLength 21 = .ok (.dup, 1) := dk_89 (dk_at dksJ15_newBytesLength_0 21 rfl rfl)
theorem dJ15_newBytesLength_22 : decode cJ15_newBytesLength 22 = .ok (.new 23, 3) := dk_187 0 23 (dk_at dksJ15_newBytesLength_1 0 rfl rfl)
theorem dJ15_newBytesLength_25 : decode cJ15_newBytesLength 25 = .ok (.dup, 1) := dk_89 (dk_at dksJ15_newBytesLength_1 3 rfl rfl)
theorem dJ15_newBytesLength_26 : decode cJ15_newBytesLength 26 = .ok (.invokespecial 25, 3) := dk_183 0 25 (dk_at dksJ15_newBytesLength_1 4 rfl rfl)
theorem dJ15_newBytesLength_29 : decode cJ15_newBytesLength 29 = .ok (.ldc 26, 2) := dk_18 26 (dk_at dksJ15_newBytesLength_1 7 rfl rfl)
theorem dJ15_newBytesLength_31 : decode cJ15_newBytesLength 31 = .ok (.invokevirtual 28, 3) := dk_182 0 28 (dk_at dksJ15_newBytesLength_1 9 rfl rfl)
theorem dJ15_newBytesLength_34 : decode cJ15_newBytesLength 34 = .ok (.iload_n 0, 1) := dk_26 (dk_at dksJ15_newBytesLength_1 12 rfl rfl)
theorem dJ15_newBytesLength_35 : decode cJ15_newBytesLength 35 = .ok (.invokevirtual 32, 3) := dk_182 0 32 (dk_at dksJ15_newBytesLength_1 13 rfl rfl)
theorem dJ15_newBytesLength_38 : decode cJ15_newBytesLength 38 = .ok (.ldc 35, 2) := dk_18 35 (dk_at dksJ15_newBytesLength_1 16 rfl rfl)
theorem dJ15_newBytesLength_40 : decode cJ15_newBytesLength 40 = .ok (.invokevirtual 28, 3) := dk_182 0 28 (dk_at dksJ15_newBytesLength_1 18 rfl rfl)
theorem dJ15_newBytesLength_43 : decode cJ15_newBytesLength 43 = .ok (.ldc 20, 2) := dk_18 20 (dk_at dksJ15_newBytesLength_1 21 rfl rfl)
theorem dJ15_newBytesLength_45 : decode cJ15_newBytesLength 45 = .ok (.invokevirtual 32, 3) := dk_182 0 32 (dk_at dksJ15_newBytesLength_2 0 rfl rfl)
theorem dJ15_newBytesLength_48 : decode cJ15_newBytesLength 48 = .ok (.invokevirtual 37, 3) := dk_182 0 37 (dk_at dksJ15_newBytesLength_2 3 rfl rfl)
theorem dJ15_newBytesLength_51 : decode cJ15_newBytesLength 51 = .ok (.invokespecial 41, 3) := dk_183 0 41 (dk_at dksJ15_newBytesLength_2 6 rfl rfl)
theorem dJ15_newBytesLength_54 : decode cJ15_newBytesLength 54 = .ok (.athrow, 1) := dk_191 (dk_at dksJ15_newBytesLength_2 9 rfl rfl)
theorem dJ15_newBytesLength_55 : decode cJ15_newBytesLength 55 = .ok (.iload_n 0, 1) := dk_26 (dk_at dksJ15_newBytesLength_2 10 rfl rfl)
theorem dJ15_newBytesLength_56 : decode cJ15_newBytesLength 56 = .ok (.iconst 1, 1) := dk_4 (dk_at dksJ15_newBytesLength_2 11 rfl rfl)
theorem dJ15_newBytesLength_57 : decode cJ15_newBytesLength 57 = .ok (.ishl, 1) := dk_120 (dk_at dksJ15_newBytesLength_2 12 rfl rfl)
theorem dJ15_newBytesLength_58 : decode cJ15_newBytesLength 58 = .ok (.ireturn, 1) := dk_172 (dk_at dksJ15_newBytesLength_2 13 rfl rfl)
abbrev cJ15_putCharsAt : ByteArray := prog_39_method_81_code
def yJ15_putCharsAt : MethodName := ⟨RJ15, "putCharsAt", "([BICCCC)I"⟩
def dkwJ15_putCharsAt_3 : List UInt8 := [21, 6, 172]
abbrev dktJ15_putCharsAt_3 : List UInt8 := dkwJ15_putCharsAt_3 ++ []
def dkwJ15_putCharsAt_2 : List UInt8 := [184, 0, 111, 178, 0, 44, 154, 0, 17, 27, 21, 6, 159, 0, 11, 187, 0, 52, 89, 183, 0, 66, 191]
abbrev dktJ15_putCharsAt_2 : List UInt8 := dkwJ15_putCharsAt_2 ++ dktJ15_putCharsAt_3
def dkwJ15_putCharsAt_1 : List UInt8 := [132, 1, 1, 29, 184, 0, 111, 42, 27, 132, 1, 1, 21, 4, 184, 0, 111, 42, 27, 132, 1, 1, 21, 5]
abbrev dktJ15_putCharsAt_1 : List UInt8 := dkwJ15_putCharsAt_1 ++ dktJ15_putCharsAt_2
def dkwJ15_putCharsAt_0 : List UInt8 := [27, 7, 96, 54, 6, 27, 21, 6, 42, 184, 0, 96, 42, 27, 132, 1, 1, 28, 184, 0, 111, 42, 27]
abbrev dktJ15_putCharsAt_0 : List UInt8 := dkwJ15_putCharsAt_0 ++ dktJ15_putCharsAt_1
theorem dksJ15_putCharsAt_0 : cJ15_putCharsAt.data.toList.drop 0 = dktJ15_putCharsAt_0 := by decide +kernel
theorem dksJ15_putCharsAt_1 : cJ15_putCharsAt.data.toList.drop 23 = dktJ15_putCharsAt_1 := dk_seg dksJ15_putCharsAt_0 23 rfl rfl
theorem dksJ15_putCharsAt_2 : cJ15_putCharsAt.data.toList.drop 47 = dktJ15_putCharsAt_2 := dk_seg dksJ15_putCharsAt_1 24 rfl rfl
theorem dksJ15_putCharsAt_3 : cJ15_putCharsAt.data.toList.drop 70 = dktJ15_putCharsAt_3 := dk_seg dksJ15_putCharsAt_2 23 rfl rfl
theorem dJ15_putCharsAt_0 : decode cJ15_putCharsAt 0 = .ok (.iload_n 1, 1) := dk_27 (dk_at dksJ15_putCharsAt_0 0 rfl rfl)
theorem dJ15_putCharsAt_1 : decode cJ15_putCharsAt 1 = .ok (.iconst 4, 1) := dk_7 (dk_at dksJ15_putCharsAt_0 1 rfl rfl)
theorem dJ15_putCharsAt_2 : decode cJ15_putCharsAt 2 = .ok (.iadd, 1) := dk_96 (dk_at dksJ15_putCharsAt_0 2 rfl rfl)
theorem dJ15_putCharsAt_3 : decode cJ15_putCharsAt 3 = .ok (.istore 6, 2) := dk_54 6 (dk_at dksJ15_putCharsAt_0 3 rfl rfl)
theorem dJ15_putCharsAt_5 : decode cJ15_putCharsAt 5 = .ok (.iload_n 1, 1) := dk_27 (dk_at dksJ15_putCharsAt_0 5 rfl rfl)
theorem dJ15_putCharsAt_6 : decode cJ15_putCharsAt 6 = .ok (.iload 6, 2) := dk_21 6 (dk_at dksJ15_putCharsAt_0 6 rfl rfl)
theorem dJ15_putCharsAt_8 : decode cJ15_putCharsAt 8 = .ok (.aload_n 0, 1) := dk_42 (dk_at dksJ15_putCharsAt_0 8 rfl rfl)
theorem dJ15_putCharsAt_9 : decode cJ15_putCharsAt 9 = .ok (.invokestatic 96, 3) := dk_184 0 96 (dk_at dksJ15_putCharsAt_0 9 rfl rfl)
theorem dJ15_putCharsAt_12 : decode cJ15_putCharsAt 12 = .ok (.aload_n 0, 1) := dk_42 (dk_at dksJ15_putCharsAt_0 12 rfl rfl)
theorem dJ15_putCharsAt_13 : decode cJ15_putCharsAt 13 = .ok (.iload_n 1, 1) := dk_27 (dk_at dksJ15_putCharsAt_0 13 rfl rfl)
theorem dJ15_putCharsAt_14 : decode cJ15_putCharsAt 14 = .ok (.iinc 1 1, 3) := dk_132 1 1 (dk_at dksJ15_putCharsAt_0 14 rfl rfl)
theorem dJ15_putCharsAt_17 : decode cJ15_putCharsAt 17 = .ok (.iload_n 2, 1) := dk_28 (dk_at dksJ15_putCharsAt_0 17 rfl rfl)
theorem dJ15_putCharsAt_18 : decode cJ15_putCharsAt 18 = .ok (.invokestatic 111, 3) := dk_184 0 111 (dk_at dksJ15_putCharsAt_0 18 rfl rfl)
theorem dJ15_putCharsAt_21 : decode cJ15_putCharsAt 21 = .ok (.aload_n 0, 1) := dk_42 (dk_at dksJ15_putCharsAt_0 21 rfl rfl)
theorem dJ15_putCharsAt_22 : decode cJ15_putCharsAt 22 = .ok (.iload_n 1, 1) := dk_27 (dk_at dksJ15_putCharsAt_0 22 rfl rfl)
theorem dJ15_putCharsAt_23 : decode cJ15_putCharsAt 23 = .ok (.iinc 1 1, 3) := dk_132 1 1 (dk_at dksJ15_putCharsAt_1 0 rfl rfl)
theorem dJ15_putCharsAt_26 : decode cJ15_putCharsAt 26 = .ok (.iload_n 3, 1) := dk_29 (dk_at dksJ15_putCharsAt_1 3 rfl rfl)
theorem dJ15_putCharsAt_27 : decode cJ15_putCharsAt 27 = .ok (.invokestatic 111, 3) := dk_184 0 111 (dk_at dksJ15_putCharsAt_1 4 rfl rfl)
theorem dJ15_putCharsAt_30 : decode cJ15_putCharsAt 30 = .ok (.aload_n 0, 1) := dk_42 (dk_at dksJ15_putCharsAt_1 7 rfl rfl)
theorem dJ15_putCharsAt_31 : decode cJ15_putCharsAt 31 = .ok (.iload_n 1, 1) := dk_27 (dk_at dksJ15_putCharsAt_1 8 rfl rfl)
theorem dJ15_putCharsAt_32 : decode cJ15_putCharsAt 32 = .ok (.iinc 1 1, 3) := dk_132 1 1 (dk_at dksJ15_putCharsAt_1 9 rfl rfl)
theorem dJ15_putCharsAt_35 : decode cJ15_putCharsAt 35 = .ok (.iload 4, 2) := dk_21 4 (dk_at dksJ15_putCharsAt_1 12 rfl rfl)
theorem dJ15_putCharsAt_37 : decode cJ15_putCharsAt 37 = .ok (.invokestatic 111, 3) := dk_184 0 111 (dk_at dksJ15_putCharsAt_1 14 rfl rfl)
theorem dJ15_putCharsAt_40 : decode cJ15_putCharsAt 40 = .ok (.aload_n 0, 1) := dk_42 (dk_at dksJ15_putCharsAt_1 17 rfl rfl)
theorem dJ15_putCharsAt_41 : decode cJ15_putCharsAt 41 = .ok (.iload_n 1, 1) := dk_27 (dk_at dksJ15_putCharsAt_1 18 rfl rfl)
theorem dJ15_putCharsAt_42 : decode cJ15_putCharsAt 42 = .ok (.iinc 1 1, 3) := dk_132 1 1 (dk_at dksJ15_putCharsAt_1 19 rfl rfl)
theorem dJ15_putCharsAt_45 : decode cJ15_putCharsAt 45 = .ok (.iload 5, 2) := dk_21 5 (dk_at dksJ15_putCharsAt_1 22 rfl rfl)
theorem dJ15_putCharsAt_47 : decode cJ15_putCharsAt 47 = .ok (.invokestatic 111, 3) := dk_184 0 111 (dk_at dksJ15_putCharsAt_2 0 rfl rfl)
theorem dJ15_putCharsAt_50 : decode cJ15_putCharsAt 50 = .ok (.getstatic 44, 3) := dk_178 0 44 (dk_at dksJ15_putCharsAt_2 3 rfl rfl)
theorem dJ15_putCharsAt_53 : decode cJ15_putCharsAt 53 = .ok (.ifCond .ne 17, 3) := dk_154 0 17 (dk_at dksJ15_putCharsAt_2 6 rfl rfl)
theorem dJ15_putCharsAt_56 : decode cJ15_putCharsAt 56 = .ok (.iload_n 1, 1) := dk_27 (dk_at dksJ15_putCharsAt_2 9 rfl rfl)
theorem dJ15_putCharsAt_57 : decode cJ15_putCharsAt 57 = .ok (.iload 6, 2) := dk_21 6 (dk_at dksJ15_putCharsAt_2 10 rfl rfl)
theorem dJ15_putCharsAt_59 : decode cJ15_putCharsAt 59 = .ok (.if_icmp .eq 11, 3) := dk_159 0 11 (dk_at dksJ15_putCharsAt_2 12 rfl rfl)
theorem dJ15_putCharsAt_62 : decode cJ15_putCharsAt 62 = .ok (.new 52, 3) := dk_187 0 52 (dk_at dksJ15_putCharsAt_2 15 rfl rfl)
theorem dJ15_putCharsAt_65 : decode cJ15_putCharsAt 65 = .ok (.dup, 1) := dk_89 (dk_at dksJ15_putCharsAt_2 18 rfl rfl)
theorem dJ15_putCharsAt_66 : decode cJ15_putCharsAt 66 = .ok (.invokespecial 66, 3) := dk_183 0 66 (dk_at dksJ15_putCharsAt_2 19 rfl rfl)
theorem dJ15_putCharsAt_69 : decode cJ15_putCharsAt 69 = .ok (.athrow, 1) := dk_191 (dk_at dksJ15_putCharsAt_2 22 rfl rfl)
theorem dJ15_putCharsAt_70 : decode cJ15_putCharsAt 70 = .ok (.iload 6, 2) := dk_21 6 (dk_at dksJ15_putCharsAt_3 0 rfl rfl)
theorem dJ15_putCharsAt_72 : decode cJ15_putCharsAt 72 = .ok (.ireturn, 1) := dk_172 (dk_at dksJ15_putCharsAt_3 2 rfl rfl)
abbrev cJ15_checkBoundsBeginEnd : ByteArray := prog_39_method_93_code
def yJ15_checkBoundsBeginEnd : MethodName := ⟨RJ15, "checkBoundsBeginEnd", "(II[B)V"⟩
def dkwJ15_checkBoundsBeginEnd_0 : List UInt8 := [26, 27, 44, 184, 0, 48, 184, 0, 241, 177]
abbrev dktJ15_checkBoundsBeginEnd_0 : List UInt8 := dkwJ15_checkBoundsBeginEnd_0 ++ []
theorem dksJ15_checkBoundsBeginEnd_0 : cJ15_checkBoundsBeginEnd.data.toList.drop 0 = dktJ15_checkBoundsBeginEnd_0 := by decide +kernel
theorem dJ15_checkBoundsBeginEnd_0 : decode cJ15_checkBoundsBeginEnd 0 = .ok (.iload_n 0, 1) := dk_26 (dk_at dksJ15_checkBoundsBeginEnd_0 0 rfl rfl)
theorem dJ15_checkBoundsBeginEnd_1 : decode cJ15_checkBoundsBeginEnd 1 = .ok (.iload_n 1, 1) := dk_27 (dk_at dksJ15_checkBoundsBeginEnd_0 1 rfl rfl)
theorem dJ15_checkBoundsBeginEnd_2 : decode cJ15_checkBoundsBeginEnd 2 = .ok (.aload_n 2, 1) := dk_44 (dk_at dksJ15_checkBoundsBeginEnd_0 2 rfl rfl)
theorem dJ15_checkBoundsBeginEnd_3 : decode cJ15_checkBoundsBeginEnd 3 = .ok (.invokestatic 48, 3) := dk_184 0 48 (dk_at dksJ15_checkBoundsBeginEnd_0 3 rfl rfl)
theorem dJ15_checkBoundsBeginEnd_6 : decode cJ15_checkBoundsBeginEnd 6 = .ok (.invokestatic 241, 3) := dk_184 0 241 (dk_at dksJ15_checkBoundsBeginEnd_0 6 rfl rfl)
theorem dJ15_checkBoundsBeginEnd_9 : decode cJ15_checkBoundsBeginEnd 9 = .ok (.return_, 1) := dk_177 (dk_at dksJ15_checkBoundsBeginEnd_0 9 rfl rfl)
abbrev cJ15_putChar : ByteArray := prog_39_method_4_code
def yJ15_putChar : MethodName := ⟨RJ15, "putChar", "([BII)V"⟩
def dkwJ15_putChar_2 : List UInt8 := [178, 0, 63, 122, 145, 84, 177]
abbrev dktJ15_putChar_2 : List UInt8 := dkwJ15_putChar_2 ++ []
def dkwJ15_putChar_1 : List UInt8 := [183, 0, 56, 191, 27, 4, 120, 60, 42, 27, 132, 1, 1, 28, 178, 0, 59, 122, 145, 84, 42, 27, 28]
abbrev dktJ15_putChar_1 : List UInt8 := dkwJ15_putChar_1 ++ dktJ15_putChar_2
def dkwJ15_putChar_0 : List UInt8 := [178, 0, 44, 154, 0, 25, 27, 155, 0, 11, 27, 42, 184, 0, 48, 161, 0, 13, 187, 0, 52, 89, 18, 54]
abbrev dktJ15_putChar_0 : List UInt8 := dkwJ15_putChar_0 ++ dktJ15_putChar_1
theorem dksJ15_putChar_0 : cJ15_putChar.data.toList.drop 0 = dktJ15_putChar_0 := by decide +kernel
theorem dksJ15_putChar_1 : cJ15_putChar.data.toList.drop 24 = dktJ15_putChar_1 := dk_seg dksJ15_putChar_0 24 rfl rfl
theorem dksJ15_putChar_2 : cJ15_putChar.data.toList.drop 47 = dktJ15_putChar_2 := dk_seg dksJ15_putChar_1 23 rfl rfl
theorem dJ15_putChar_0 : decode cJ15_putChar 0 = .ok (.getstatic 44, 3) := dk_178 0 44 (dk_at dksJ15_putChar_0 0 rfl rfl)
theorem dJ15_putChar_3 : decode cJ15_putChar 3 = .ok (.ifCond .ne 25, 3) := dk_154 0 25 (dk_at dksJ15_putChar_0 3 rfl rfl)
theorem dJ15_putChar_6 : decode cJ15_putChar 6 = .ok (.iload_n 1, 1) := dk_27 (dk_at dksJ15_putChar_0 6 rfl rfl)
theorem dJ15_putChar_7 : decode cJ15_putChar 7 = .ok (.ifCond .lt 11, 3) := dk_155 0 11 (dk_at dksJ15_putChar_0 7 rfl rfl)
theorem dJ15_putChar_10 : decode cJ15_putChar 10 = .ok (.iload_n 1, 1) := dk_27 (dk_at dksJ15_putChar_0 10 rfl rfl)
theorem dJ15_putChar_11 : decode cJ15_putChar 11 = .ok (.aload_n 0, 1) := dk_42 (dk_at dksJ15_putChar_0 11 rfl rfl)
theorem dJ15_putChar_12 : decode cJ15_putChar 12 = .ok (.invokestatic 48, 3) := dk_184 0 48 (dk_at dksJ15_putChar_0 12 rfl rfl)
theorem dJ15_putChar_15 : decode cJ15_putChar 15 = .ok (.if_icmp .lt 13, 3) := dk_161 0 13 (dk_at dksJ15_putChar_0 15 rfl rfl)
theorem dJ15_putChar_18 : decode cJ15_putChar 18 = .ok (.new 52, 3) := dk_187 0 52 (dk_at dksJ15_putChar_0 18 rfl rfl)
theorem dJ15_putChar_21 : decode cJ15_putChar 21 = .ok (.dup, 1) := dk_89 (dk_at dksJ15_putChar_0 21 rfl rfl)
theorem dJ15_putChar_22 : decode cJ15_putChar 22 = .ok (.ldc 54, 2) := dk_18 54 (dk_at dksJ15_putChar_0 22 rfl rfl)
theorem dJ15_putChar_24 : decode cJ15_putChar 24 = .ok (.invokespecial 56, 3) := dk_183 0 56 (dk_at dksJ15_putChar_1 0 rfl rfl)
theorem dJ15_putChar_27 : decode cJ15_putChar 27 = .ok (.athrow, 1) := dk_191 (dk_at dksJ15_putChar_1 3 rfl rfl)
theorem dJ15_putChar_28 : decode cJ15_putChar 28 = .ok (.iload_n 1, 1) := dk_27 (dk_at dksJ15_putChar_1 4 rfl rfl)
theorem dJ15_putChar_29 : decode cJ15_putChar 29 = .ok (.iconst 1, 1) := dk_4 (dk_at dksJ15_putChar_1 5 rfl rfl)
theorem dJ15_putChar_30 : decode cJ15_putChar 30 = .ok (.ishl, 1) := dk_120 (dk_at dksJ15_putChar_1 6 rfl rfl)
theorem dJ15_putChar_31 : decode cJ15_putChar 31 = .ok (.istore_n 1, 1) := dk_60 (dk_at dksJ15_putChar_1 7 rfl rfl)
theorem dJ15_putChar_32 : decode cJ15_putChar 32 = .ok (.aload_n 0, 1) := dk_42 (dk_at dksJ15_putChar_1 8 rfl rfl)
theorem dJ15_putChar_33 : decode cJ15_putChar 33 = .ok (.iload_n 1, 1) := dk_27 (dk_at dksJ15_putChar_1 9 rfl rfl)
theorem dJ15_putChar_34 : decode cJ15_putChar 34 = .ok (.iinc 1 1, 3) := dk_132 1 1 (dk_at dksJ15_putChar_1 10 rfl rfl)
theorem dJ15_putChar_37 : decode cJ15_putChar 37 = .ok (.iload_n 2, 1) := dk_28 (dk_at dksJ15_putChar_1 13 rfl rfl)
theorem dJ15_putChar_38 : decode cJ15_putChar 38 = .ok (.getstatic 59, 3) := dk_178 0 59 (dk_at dksJ15_putChar_1 14 rfl rfl)
theorem dJ15_putChar_41 : decode cJ15_putChar 41 = .ok (.ishr, 1) := dk_122 (dk_at dksJ15_putChar_1 17 rfl rfl)
theorem dJ15_putChar_42 : decode cJ15_putChar 42 = .ok (.i2b, 1) := dk_145 (dk_at dksJ15_putChar_1 18 rfl rfl)
theorem dJ15_putChar_43 : decode cJ15_putChar 43 = .ok (.bastore, 1) := dk_84 (dk_at dksJ15_putChar_1 19 rfl rfl)
theorem dJ15_putChar_44 : decode cJ15_putChar 44 = .ok (.aload_n 0, 1) := dk_42 (dk_at dksJ15_putChar_1 20 rfl rfl)
theorem dJ15_putChar_45 : decode cJ15_putChar 45 = .ok (.iload_n 1, 1) := dk_27 (dk_at dksJ15_putChar_1 21 rfl rfl)
theorem dJ15_putChar_46 : decode cJ15_putChar 46 = .ok (.iload_n 2, 1) := dk_28 (dk_at dksJ15_putChar_1 22 rfl rfl)
theorem dJ15_putChar_47 : decode cJ15_putChar 47 = .ok (.getstatic 63, 3) := dk_178 0 63 (dk_at dksJ15_putChar_2 0 rfl rfl)
theorem dJ15_putChar_50 : decode cJ15_putChar 50 = .ok (.ishr, 1) := dk_122 (dk_at dksJ15_putChar_2 3 rfl rfl)
theorem dJ15_putChar_51 : decode cJ15_putChar 51 = .ok (.i2b, 1) := dk_145 (dk_at dksJ15_putChar_2 4 rfl rfl)
theorem dJ15_putChar_52 : decode cJ15_putChar 52 = .ok (.bastore, 1) := dk_84 (dk_at dksJ15_putChar_2 5 rfl rfl)
theorem dJ15_putChar_53 : decode cJ15_putChar 53 = .ok (.return_, 1) := dk_177 (dk_at dksJ15_putChar_2 6 rfl rfl)
abbrev cJ15_inflate : ByteArray := prog_39_method_86_code
def yJ15_inflate : MethodName := ⟨RJ15, "inflate", "([BI[BII)V"⟩
def dkwJ15_inflate_1 : List UInt8 := [132, 1, 1, 51, 17, 0, 255, 126, 184, 0, 111, 132, 5, 1, 167, 255, 228, 177]
abbrev dktJ15_inflate_1 : List UInt8 := dkwJ15_inflate_1 ++ []
def dkwJ15_inflate_0 : List UInt8 := [29, 21, 4, 44, 184, 0, 173, 3, 54, 5, 21, 5, 21, 4, 162, 0, 27, 44, 29, 132, 3, 1, 42, 27]
abbrev dktJ15_inflate_0 : List UInt8 := dkwJ15_inflate_0 ++ dktJ15_inflate_1
theorem dksJ15_inflate_0 : cJ15_inflate.data.toList.drop 0 = dktJ15_inflate_0 := by decide +kernel
theorem dksJ15_inflate_1 : cJ15_inflate.data.toList.drop 24 = dktJ15_inflate_1 := dk_seg dksJ15_inflate_0 24 rfl rfl
theorem dJ15_inflate_0 : decode cJ15_inflate 0 = .ok (.iload_n 3, 1) := dk_29 (dk_at dksJ15_inflate_0 0 rfl rfl)
theorem dJ15_inflate_1 : decode cJ15_inflate 1 = .ok (.iload 4, 2) := dk_21 4 (dk_at dksJ15_inflate_0 1 rfl rfl)
theorem dJ15_inflate_3 : decode cJ15_inflate 3 = .ok (.aload_n 2, 1) := dk_44 (dk_at dksJ15_inflate_0 3 rfl rfl)
theorem dJ15_inflate_4 : decode cJ15_inflate 4 = .ok (.invokestatic 173, 3) := dk_184 0 173 (dk_at dksJ15_inflate_0 4 rfl rfl)
theorem dJ15_inflate_7 : decode cJ15_inflate 7 = .ok (.iconst 0, 1) := dk_3 (dk_at dksJ15_inflate_0 7 rfl rfl)
theorem dJ15_inflate_8 : decode cJ15_inflate 8 = .ok (.istore 5, 2) := dk_54 5 (dk_at dksJ15_inflate_0 8 rfl rfl)
theorem dJ15_inflate_10 : decode cJ15_inflate 10 = .ok (.iload 5, 2) := dk_21 5 (dk_at dksJ15_inflate_0 10 rfl rfl)
theorem dJ15_inflate_12 : decode cJ15_inflate 12 = .ok (.iload 4, 2) := dk_21 4 (dk_at dksJ15_inflate_0 12 rfl rfl)
theorem dJ15_inflate_14 : decode cJ15_inflate 14 = .ok (.if_icmp .ge 27, 3) := dk_162 0 27 (dk_at dksJ15_inflate_0 14 rfl rfl)
theorem dJ15_inflate_17 : decode cJ15_inflate 17 = .ok (.aload_n 2, 1) := dk_44 (dk_at dksJ15_inflate_0 17 rfl rfl)
theorem dJ15_inflate_18 : decode cJ15_inflate 18 = .ok (.iload_n 3, 1) := dk_29 (dk_at dksJ15_inflate_0 18 rfl rfl)
theorem dJ15_inflate_19 : decode cJ15_inflate 19 = .ok (.iinc 3 1, 3) := dk_132 3 1 (dk_at dksJ15_inflate_0 19 rfl rfl)
theorem dJ15_inflate_22 : decode cJ15_inflate 22 = .ok (.aload_n 0, 1) := dk_42 (dk_at dksJ15_inflate_0 22 rfl rfl)
theorem dJ15_inflate_23 : decode cJ15_inflate 23 = .ok (.iload_n 1, 1) := dk_27 (dk_at dksJ15_inflate_0 23 rfl rfl)
theorem dJ15_inflate_24 : decode cJ15_inflate 24 = .ok (.iinc 1 1, 3) := dk_132 1 1 (dk_at dksJ15_inflate_1 0 rfl rfl)
theorem dJ15_inflate_27 : decode cJ15_inflate 27 = .ok (.baload, 1) := dk_51 (dk_at dksJ15_inflate_1 3 rfl rfl)
theorem dJ15_inflate_28 : decode cJ15_inflate 28 = .ok (.sipush 255, 3) := dk_17 0 255 (dk_at dksJ15_inflate_1 4 rfl rfl)
theorem dJ15_inflate_31 : decode cJ15_inflate 31 = .ok (.iand, 1) := dk_126 (dk_at dksJ15_inflate_1 7 rfl rfl)
theorem dJ15_inflate_32 : decode cJ15_inflate 32 = .ok (.invokestatic 111, 3) := dk_184 0 111 (dk_at dksJ15_inflate_1 8 rfl rfl)
theorem dJ15_inflate_35 : decode cJ15_inflate 35 = .ok (.iinc 5 1, 3) := dk_132 5 1 (dk_at dksJ15_inflate_1 11 rfl rfl)
theorem dJ15_inflate_38 : decode cJ15_inflate 38 = .ok (.goto (-28), 3) := dk_167 255 228 (dk_at dksJ15_inflate_1 14 rfl rfl)
theorem dJ15_inflate_41 : decode cJ15_inflate 41 = .ok (.return_, 1) := dk_177 (dk_at dksJ15_inflate_1 17 rfl rfl)
abbrev cJ15_checkBoundsOffCount : ByteArray := prog_39_method_94_code
def yJ15_checkBoundsOffCount : MethodName := ⟨RJ15, "checkBoundsOffCount", "(II[B)V"⟩
def dkwJ15_checkBoundsOffCount_0 : List UInt8 := [26, 27, 44, 184, 0, 48, 184, 1, 163, 87, 177]
abbrev dktJ15_checkBoundsOffCount_0 : List UInt8 := dkwJ15_checkBoundsOffCount_0 ++ []
theorem dksJ15_checkBoundsOffCount_0 : cJ15_checkBoundsOffCount.data.toList.drop 0 = dktJ15_checkBoundsOffCount_0 := by decide +kernel
theorem dJ15_checkBoundsOffCount_0 : decode cJ15_checkBoundsOffCount 0 = .ok (.iload_n 0, 1) := dk_26 (dk_at dksJ15_checkBoundsOffCount_0 0 rfl rfl)
theorem dJ15_checkBoundsOffCount_1 : decode cJ15_checkBoundsOffCount 1 = .ok (.iload_n 1, 1) := dk_27 (dk_at dksJ15_checkBoundsOffCount_0 1 rfl rfl)
theorem dJ15_checkBoundsOffCount_2 : decode cJ15_checkBoundsOffCount 2 = .ok (.aload_n 2, 1) := dk_44 (dk_at dksJ15_checkBoundsOffCount_0 2 rfl rfl)
theorem dJ15_checkBoundsOffCount_3 : decode cJ15_checkBoundsOffCount 3 = .ok (.invokestatic 48, 3) := dk_184 0 48 (dk_at dksJ15_checkBoundsOffCount_0 3 rfl rfl)
theorem dJ15_checkBoundsOffCount_6 : decode cJ15_checkBoundsOffCount 6 = .ok (.invokestatic 419, 3) := dk_184 1 163 (dk_at dksJ15_checkBoundsOffCount_0 6 rfl rfl)
theorem dJ15_checkBoundsOffCount_9 : decode cJ15_checkBoundsOffCount 9 = .ok (.pop, 1) := dk_87 (dk_at dksJ15_checkBoundsOffCount_0 9 rfl rfl)
theorem dJ15_checkBoundsOffCount_10 : decode cJ15_checkBoundsOffCount 10 = .ok (.return_, 1) := dk_177 (dk_at dksJ15_checkBoundsOffCount_0 10 rfl rfl)
abbrev cJ15_getChars : ByteArray := prog_39_method_77_code
def yJ15_getChars : MethodName := ⟨RJ15, "getChars", "(III[B)I"⟩
def dkwJ15_getChars_1 : List UInt8 := [159, 0, 11, 187, 0, 52, 89, 183, 0, 66, 191, 21, 4, 172]
abbrev dktJ15_getChars_1 : List UInt8 := dkwJ15_getChars_1 ++ []
def dkwJ15_getChars_0 : List UInt8 := [27, 28, 45, 184, 0, 96, 26, 28, 45, 184, 1, 137, 54, 4, 178, 0, 44, 154, 0, 17, 27, 21, 4]
abbrev dktJ15_getChars_0 : List UInt8 := dkwJ15_getChars_0 ++ dktJ15_getChars_1
theorem dksJ15_getChars_0 : cJ15_getChars.data.toList.drop 0 = dktJ15_getChars_0 := by decide +kernel
theorem dksJ15_getChars_1 : cJ15_getChars.data.toList.drop 23 = dktJ15_getChars_1 := dk_seg dksJ15_getChars_0 23 rfl rfl
theorem dJ15_getChars_0 : decode cJ15_getChars 0 = .ok (.iload_n 1, 1) := dk_27 (dk_at dksJ15_getChars_0 0 rfl rfl)
theorem dJ15_getChars_1 : decode cJ15_getChars 1 = .ok (.iload_n 2, 1) := dk_28 (dk_at dksJ15_getChars_0 1 rfl rfl)
theorem dJ15_getChars_2 : decode cJ15_getChars 2 = .ok (.aload_n 3, 1) := dk_45 (dk_at dksJ15_getChars_0 2 rfl rfl)
theorem dJ15_getChars_3 : decode cJ15_getChars 3 = .ok (.invokestatic 96, 3) := dk_184 0 96 (dk_at dksJ15_getChars_0 3 rfl rfl)
theorem dJ15_getChars_6 : decode cJ15_getChars 6 = .ok (.iload_n 0, 1) := dk_26 (dk_at dksJ15_getChars_0 6 rfl rfl)
theorem dJ15_getChars_7 : decode cJ15_getChars 7 = .ok (.iload_n 2, 1) := dk_28 (dk_at dksJ15_getChars_0 7 rfl rfl)
theorem dJ15_getChars_8 : decode cJ15_getChars 8 = .ok (.aload_n 3, 1) := dk_45 (dk_at dksJ15_getChars_0 8 rfl rfl)
theorem dJ15_getChars_9 : decode cJ15_getChars 9 = .ok (.invokestatic 393, 3) := dk_184 1 137 (dk_at dksJ15_getChars_0 9 rfl rfl)
theorem dJ15_getChars_12 : decode cJ15_getChars 12 = .ok (.istore 4, 2) := dk_54 4 (dk_at dksJ15_getChars_0 12 rfl rfl)
theorem dJ15_getChars_14 : decode cJ15_getChars 14 = .ok (.getstatic 44, 3) := dk_178 0 44 (dk_at dksJ15_getChars_0 14 rfl rfl)
theorem dJ15_getChars_17 : decode cJ15_getChars 17 = .ok (.ifCond .ne 17, 3) := dk_154 0 17 (dk_at dksJ15_getChars_0 17 rfl rfl)
theorem dJ15_getChars_20 : decode cJ15_getChars 20 = .ok (.iload_n 1, 1) := dk_27 (dk_at dksJ15_getChars_0 20 rfl rfl)
theorem dJ15_getChars_21 : decode cJ15_getChars 21 = .ok (.iload 4, 2) := dk_21 4 (dk_at dksJ15_getChars_0 21 rfl rfl)
theorem dJ15_getChars_23 : decode cJ15_getChars 23 = .ok (.if_icmp .eq 11, 3) := dk_159 0 11 (dk_at dksJ15_getChars_1 0 rfl rfl)
theorem dJ15_getChars_26 : decode cJ15_getChars 26 = .ok (.new 52, 3) := dk_187 0 52 (dk_at dksJ15_getChars_1 3 rfl rfl)
theorem dJ15_getChars_29 : decode cJ15_getChars 29 = .ok (.dup, 1) := dk_89 (dk_at dksJ15_getChars_1 6 rfl rfl)
theorem dJ15_getChars_30 : decode cJ15_getChars 30 = .ok (.invokespecial 66, 3) := dk_183 0 66 (dk_at dksJ15_getChars_1 7 rfl rfl)
theorem dJ15_getChars_33 : decode cJ15_getChars 33 = .ok (.athrow, 1) := dk_191 (dk_at dksJ15_getChars_1 10 rfl rfl)
theorem dJ15_getChars_34 : decode cJ15_getChars 34 = .ok (.iload 4, 2) := dk_21 4 (dk_at dksJ15_getChars_1 11 rfl rfl)
theorem dJ15_getChars_36 : decode cJ15_getChars 36 = .ok (.ireturn, 1) := dk_172 (dk_at dksJ15_getChars_1 13 rfl rfl)
abbrev cJ15_getChars_2 : ByteArray := prog_39_method_89_code
def yJ15_getChars_2 : MethodName := ⟨RJ15, "getChars", "(II[B)I"⟩
def dkwJ15_getChars_2_5 : List UInt8 := [132, 5, 255, 21, 5, 16, 45, 184, 0, 111, 21, 5, 172]
abbrev dktJ15_getChars_2_5 : List UInt8 := dkwJ15_getChars_2_5 ++ []
def dkwJ15_getChars_2_4 : List UInt8 := [162, 0, 18, 44, 132, 5, 255, 21, 5, 178, 1, 151, 26, 116, 51, 184, 0, 111, 21, 6, 153, 0, 14, 44]
abbrev dktJ15_getChars_2_4 : List UInt8 := dkwJ15_getChars_2_4 ++ dktJ15_getChars_2_5
def dkwJ15_getChars_2_3 : List UInt8 := [184, 0, 111, 167, 255, 205, 44, 132, 5, 255, 21, 5, 178, 1, 147, 26, 116, 51, 184, 0, 111, 26, 16, 247]
abbrev dktJ15_getChars_2_3 : List UInt8 := dkwJ15_getChars_2_3 ++ dktJ15_getChars_2_4
def dkwJ15_getChars_2_2 : List UInt8 := [21, 5, 178, 1, 147, 21, 4, 51, 184, 0, 111, 44, 132, 5, 255, 21, 5, 178, 1, 151, 21, 4, 51]
abbrev dktJ15_getChars_2_2 : List UInt8 := dkwJ15_getChars_2_2 ++ dktJ15_getChars_2_3
def dkwJ15_getChars_2_1 : List UInt8 := [16, 156, 163, 0, 51, 26, 16, 100, 108, 62, 29, 16, 100, 104, 26, 100, 54, 4, 29, 59, 44, 132, 5, 255]
abbrev dktJ15_getChars_2_1 : List UInt8 := dkwJ15_getChars_2_1 ++ dktJ15_getChars_2_2
def dkwJ15_getChars_2_0 : List UInt8 := [27, 54, 5, 26, 156, 0, 7, 4, 167, 0, 4, 3, 54, 6, 21, 6, 154, 0, 6, 26, 116, 59, 26]
abbrev dktJ15_getChars_2_0 : List UInt8 := dkwJ15_getChars_2_0 ++ dktJ15_getChars_2_1
theorem dksJ15_getChars_2_0 : cJ15_getChars_2.data.toList.drop 0 = dktJ15_getChars_2_0 := by decide +kernel
theorem dksJ15_getChars_2_1 : cJ15_getChars_2.data.toList.drop 23 = dktJ15_getChars_2_1 := dk_seg dksJ15_getChars_2_0 23 rfl rfl
theorem dksJ15_getChars_2_2 : cJ15_getChars_2.data.toList.drop 47 = dktJ15_getChars_2_2 := dk_seg dksJ15_getChars_2_1 24 rfl rfl
theorem dksJ15_getChars_2_3 : cJ15_getChars_2.data.toList.drop 70 = dktJ15_getChars_2_3 := dk_seg dksJ15_getChars_2_2 23 rfl rfl
theorem dksJ15_getChars_2_4 : cJ15_getChars_2.data.toList.drop 94 = dktJ15_getChars_2_4 := dk_seg dksJ15_getChars_2_3 24 rfl rfl
theorem dksJ15_getChars_2_5 : cJ15_getChars_2.data.toList.drop 118 = dktJ15_getChars_2_5 := dk_seg dksJ15_getChars_2_4 24 rfl rfl
theorem dJ15_getChars_2_0 : decode cJ15_getChars_2 0 = .ok (.iload_n 1, 1) := dk_27 (dk_at dksJ15_getChars_2_0 0 rfl rfl)
theorem dJ15_getChars_2_1 : decode cJ15_getChars_2 1 = .ok (.istore 5, 2) := dk_54 5 (dk_at dksJ15_getChars_2_0 1 rfl rfl)
theorem dJ15_getChars_2_3 : decode cJ15_getChars_2 3 = .ok (.iload_n 0, 1) := dk_26 (dk_at dksJ15_getChars_2_0 3 rfl rfl)
theorem dJ15_getChars_2_4 : decode cJ15_getChars_2 4 = .ok (.ifCond .ge 7, 3) := dk_156 0 7 (dk_at dksJ15_getChars_2_0 4 rfl rfl)
theorem dJ15_getChars_2_7 : decode cJ15_getChars_2 7 = .ok (.iconst 1, 1) := dk_4 (dk_at dksJ15_getChars_2_0 7 rfl rfl)
theorem dJ15_getChars_2_8 : decode cJ15_getChars_2 8 = .ok (.goto 4, 3) := dk_167 0 4 (dk_at dksJ15_getChars_2_0 8 rfl rfl)
theorem dJ15_getChars_2_11 : decode cJ15_getChars_2 11 = .ok (.iconst 0, 1) := dk_3 (dk_at dksJ15_getChars_2_0 11 rfl rfl)
theorem dJ15_getChars_2_12 : decode cJ15_getChars_2 12 = .ok (.istore 6, 2) := dk_54 6 (dk_at dksJ15_getChars_2_0 12 rfl rfl)
theorem dJ15_getChars_2_14 : decode cJ15_getChars_2 14 = .ok (.iload 6, 2) := dk_21 6 (dk_at dksJ15_getChars_2_0 14 rfl rfl)
theorem dJ15_getChars_2_16 : decode cJ15_getChars_2 16 = .ok (.ifCond .ne 6, 3) := dk_154 0 6 (dk_at dksJ15_getChars_2_0 16 rfl rfl)
theorem dJ15_getChars_2_19 : decode cJ15_getChars_2 19 = .ok (.iload_n 0, 1) := dk_26 (dk_at dksJ15_getChars_2_0 19 rfl rfl)
theorem dJ15_getChars_2_20 : decode cJ15_getChars_2 20 = .ok (.ineg, 1) := dk_116 (dk_at dksJ15_getChars_2_0 20 rfl rfl)
theorem dJ15_getChars_2_21 : decode cJ15_getChars_2 21 = .ok (.istore_n 0, 1) := dk_59 (dk_at dksJ15_getChars_2_0 21 rfl rfl)
theorem dJ15_getChars_2_22 : decode cJ15_getChars_2 22 = .ok (.iload_n 0, 1) := dk_26 (dk_at dksJ15_getChars_2_0 22 rfl rfl)
theorem dJ15_getChars_2_23 : decode cJ15_getChars_2 23 = .ok (.bipush (-100), 2) := dk_16 156 (dk_at dksJ15_getChars_2_1 0 rfl rfl)
theorem dJ15_getChars_2_25 : decode cJ15_getChars_2 25 = .ok (.if_icmp .gt 51, 3) := dk_163 0 51 (dk_at dksJ15_getChars_2_1 2 rfl rfl)
theorem dJ15_getChars_2_28 : decode cJ15_getChars_2 28 = .ok (.iload_n 0, 1) := dk_26 (dk_at dksJ15_getChars_2_1 5 rfl rfl)
theorem dJ15_getChars_2_29 : decode cJ15_getChars_2 29 = .ok (.bipush 100, 2) := dk_16 100 (dk_at dksJ15_getChars_2_1 6 rfl rfl)
theorem dJ15_getChars_2_31 : decode cJ15_getChars_2 31 = .ok (.idiv, 1) := dk_108 (dk_at dksJ15_getChars_2_1 8 rfl rfl)
theorem dJ15_getChars_2_32 : decode cJ15_getChars_2 32 = .ok (.istore_n 3, 1) := dk_62 (dk_at dksJ15_getChars_2_1 9 rfl rfl)
theorem dJ15_getChars_2_33 : decode cJ15_getChars_2 33 = .ok (.iload_n 3, 1) := dk_29 (dk_at dksJ15_getChars_2_1 10 rfl rfl)
theorem dJ15_getChars_2_34 : decode cJ15_getChars_2 34 = .ok (.bipush 100, 2) := dk_16 100 (dk_at dksJ15_getChars_2_1 11 rfl rfl)
theorem dJ15_getChars_2_36 : decode cJ15_getChars_2 36 = .ok (.imul, 1) := dk_104 (dk_at dksJ15_getChars_2_1 13 rfl rfl)
theorem dJ15_getChars_2_37 : decode cJ15_getChars_2 37 = .ok (.iload_n 0, 1) := dk_26 (dk_at dksJ15_getChars_2_1 14 rfl rfl)
theorem dJ15_getChars_2_38 : decode cJ15_getChars_2 38 = .ok (.isub, 1) := dk_100 (dk_at dksJ15_getChars_2_1 15 rfl rfl)
theorem dJ15_getChars_2_39 : decode cJ15_getChars_2 39 = .ok (.istore 4, 2) := dk_54 4 (dk_at dksJ15_getChars_2_1 16 rfl rfl)
theorem dJ15_getChars_2_41 : decode cJ15_getChars_2 41 = .ok (.iload_n 3, 1) := dk_29 (dk_at dksJ15_getChars_2_1 18 rfl rfl)
theorem dJ15_getChars_2_42 : decode cJ15_getChars_2 42 = .ok (.istore_n 0, 1) := dk_59 (dk_at dksJ15_getChars_2_1 19 rfl rfl)
theorem dJ15_getChars_2_43 : decode cJ15_getChars_2 43 = .ok (.aload_n 2, 1) := dk_44 (dk_at dksJ15_getChars_2_1 20 rfl rfl)
theorem dJ15_getChars_2_44 : decode cJ15_getChars_2 44 = .ok (.iinc 5 (-1), 3) := dk_132 5 255 (dk_at dksJ15_getChars_2_1 21 rfl rfl)
theorem dJ15_getChars_2_47 : decode cJ15_getChars_2 47 = .ok (.iload 5, 2) := dk_21 5 (dk_at dksJ15_getChars_2_2 0 rfl rfl)
theorem dJ15_getChars_2_49 : decode cJ15_getChars_2 49 = .ok (.getstatic 403, 3) := dk_178 1 147 (dk_at dksJ15_getChars_2_2 2 rfl rfl)
theorem dJ15_getChars_2_52 : decode cJ15_getChars_2 52 = .ok (.iload 4, 2) := dk_21 4 (dk_at dksJ15_getChars_2_2 5 rfl rfl)
theorem dJ15_getChars_2_54 : decode cJ15_getChars_2 54 = .ok (.baload, 1) := dk_51 (dk_at dksJ15_getChars_2_2 7 rfl rfl)
theorem dJ15_getChars_2_55 : decode cJ15_getChars_2 55 = .ok (.invokestatic 111, 3) := dk_184 0 111 (dk_at dksJ15_getChars_2_2 8 rfl rfl)
theorem dJ15_getChars_2_58 : decode cJ15_getChars_2 58 = .ok (.aload_n 2, 1) := dk_44 (dk_at dksJ15_getChars_2_2 11 rfl rfl)
theorem dJ15_getChars_2_59 : decode cJ15_getChars_2 59 = .ok (.iinc 5 (-1), 3) := dk_132 5 255 (dk_at dksJ15_getChars_2_2 12 rfl rfl)
theorem dJ15_getChars_2_62 : decode cJ15_getChars_2 62 = .ok (.iload 5, 2) := dk_21 5 (dk_at dksJ15_getChars_2_2 15 rfl rfl)
theorem dJ15_getChars_2_64 : decode cJ15_getChars_2 64 = .ok (.getstatic 407, 3) := dk_178 1 151 (dk_at dksJ15_getChars_2_2 17 rfl rfl)
theorem dJ15_getChars_2_67 : decode cJ15_getChars_2 67 = .ok (.iload 4, 2) := dk_21 4 (dk_at dksJ15_getChars_2_2 20 rfl rfl)
theorem dJ15_getChars_2_69 : decode cJ15_getChars_2 69 = .ok (.baload, 1) := dk_51 (dk_at dksJ15_getChars_2_2 22 rfl rfl)
theorem dJ15_getChars_2_70 : decode cJ15_getChars_2 70 = .ok (.invokestatic 111, 3) := dk_184 0 111 (dk_at dksJ15_getChars_2_3 0 rfl rfl)
theorem dJ15_getChars_2_73 : decode cJ15_getChars_2 73 = .ok (.goto (-51), 3) := dk_167 255 205 (dk_at dksJ15_getChars_2_3 3 rfl rfl)
theorem dJ15_getChars_2_76 : decode cJ15_getChars_2 76 = .ok (.aload_n 2, 1) := dk_44 (dk_at dksJ15_getChars_2_3 6 rfl rfl)
theorem dJ15_getChars_2_77 : decode cJ15_getChars_2 77 = .ok (.iinc 5 (-1), 3) := dk_132 5 255 (dk_at dksJ15_getChars_2_3 7 rfl rfl)
theorem dJ15_getChars_2_80 : decode cJ15_getChars_2 80 = .ok (.iload 5, 2) := dk_21 5 (dk_at dksJ15_getChars_2_3 10 rfl rfl)
theorem dJ15_getChars_2_82 : decode cJ15_getChars_2 82 = .ok (.getstatic 403, 3) := dk_178 1 147 (dk_at dksJ15_getChars_2_3 12 rfl rfl)
theorem dJ15_getChars_2_85 : decode cJ15_getChars_2 85 = .ok (.iload_n 0, 1) := dk_26 (dk_at dksJ15_getChars_2_3 15 rfl rfl)
theorem dJ15_getChars_2_86 : decode cJ15_getChars_2 86 = .ok (.ineg, 1) := dk_116 (dk_at dksJ15_getChars_2_3 16 rfl rfl)
theorem dJ15_getChars_2_87 : decode cJ15_getChars_2 87 = .ok (.baload, 1) := dk_51 (dk_at dksJ15_getChars_2_3 17 rfl rfl)
theorem dJ15_getChars_2_88 : decode cJ15_getChars_2 88 = .ok (.invokestatic 111, 3) := dk_184 0 111 (dk_at dksJ15_getChars_2_3 18 rfl rfl)
theorem dJ15_getChars_2_91 : decode cJ15_getChars_2 91 = .ok (.iload_n 0, 1) := dk_26 (dk_at dksJ15_getChars_2_3 21 rfl rfl)
theorem dJ15_getChars_2_92 : decode cJ15_getChars_2 92 = .ok (.bipush (-9), 2) := dk_16 247 (dk_at dksJ15_getChars_2_3 22 rfl rfl)
theorem dJ15_getChars_2_94 : decode cJ15_getChars_2 94 = .ok (.if_icmp .ge 18, 3) := dk_162 0 18 (dk_at dksJ15_getChars_2_4 0 rfl rfl)
theorem dJ15_getChars_2_97 : decode cJ15_getChars_2 97 = .ok (.aload_n 2, 1) := dk_44 (dk_at dksJ15_getChars_2_4 3 rfl rfl)
theorem dJ15_getChars_2_98 : decode cJ15_getChars_2 98 = .ok (.iinc 5 (-1), 3) := dk_132 5 255 (dk_at dksJ15_getChars_2_4 4 rfl rfl)
theorem dJ15_getChars_2_101 : decode cJ15_getChars_2 101 = .ok (.iload 5, 2) := dk_21 5 (dk_at dksJ15_getChars_2_4 7 rfl rfl)
theorem dJ15_getChars_2_103 : decode cJ15_getChars_2 103 = .ok (.getstatic 407, 3) := dk_178 1 151 (dk_at dksJ15_getChars_2_4 9 rfl rfl)
theorem dJ15_getChars_2_106 : decode cJ15_getChars_2 106 = .ok (.iload_n 0, 1) := dk_26 (dk_at dksJ15_getChars_2_4 12 rfl rfl)
theorem dJ15_getChars_2_107 : decode cJ15_getChars_2 107 = .ok (.ineg, 1) := dk_116 (dk_at dksJ15_getChars_2_4 13 rfl rfl)
theorem dJ15_getChars_2_108 : decode cJ15_getChars_2 108 = .ok (.baload, 1) := dk_51 (dk_at dksJ15_getChars_2_4 14 rfl rfl)
theorem dJ15_getChars_2_109 : decode cJ15_getChars_2 109 = .ok (.invokestatic 111, 3) := dk_184 0 111 (dk_at dksJ15_getChars_2_4 15 rfl rfl)
theorem dJ15_getChars_2_112 : decode cJ15_getChars_2 112 = .ok (.iload 6, 2) := dk_21 6 (dk_at dksJ15_getChars_2_4 18 rfl rfl)
theorem dJ15_getChars_2_114 : decode cJ15_getChars_2 114 = .ok (.ifCond .eq 14, 3) := dk_153 0 14 (dk_at dksJ15_getChars_2_4 20 rfl rfl)
theorem dJ15_getChars_2_117 : decode cJ15_getChars_2 117 = .ok (.aload_n 2, 1) := dk_44 (dk_at dksJ15_getChars_2_4 23 rfl rfl)
theorem dJ15_getChars_2_118 : decode cJ15_getChars_2 118 = .ok (.iinc 5 (-1), 3) := dk_132 5 255 (dk_at dksJ15_getChars_2_5 0 rfl rfl)
theorem dJ15_getChars_2_121 : decode cJ15_getChars_2 121 = .ok (.iload 5, 2) := dk_21 5 (dk_at dksJ15_getChars_2_5 3 rfl rfl)
theorem dJ15_getChars_2_123 : decode cJ15_getChars_2 123 = .ok (.bipush 45, 2) := dk_16 45 (dk_at dksJ15_getChars_2_5 5 rfl rfl)
theorem dJ15_getChars_2_125 : decode cJ15_getChars_2 125 = .ok (.invokestatic 111, 3) := dk_184 0 111 (dk_at dksJ15_getChars_2_5 7 rfl rfl)
theorem dJ15_getChars_2_128 : decode cJ15_getChars_2 128 = .ok (.iload 5, 2) := dk_21 5 (dk_at dksJ15_getChars_2_5 10 rfl rfl)
theorem dJ15_getChars_2_130 : decode cJ15_getChars_2 130 = .ok (.ireturn, 1) := dk_172 (dk_at dksJ15_getChars_2_5 12 rfl rfl)
abbrev cJ15_compress : ByteArray := prog_39_method_17_code
def yJ15_compress : MethodName := ⟨RJ15, "compress", "([BII)[B"⟩
def dkwJ15_compress_2 : List UInt8 := [25, 5, 3, 45, 3, 28, 184, 0, 123, 28, 159, 0, 6, 25, 5, 176, 45, 176]
abbrev dktJ15_compress_2 : List UInt8 := dkwJ15_compress_2 ++ []
def dkwJ15_compress_1 : List UInt8 := [27, 28, 96, 184, 0, 11, 184, 0, 126, 58, 5, 25, 5, 21, 4, 184, 0, 71, 17, 0, 255, 163, 0, 16]
abbrev dktJ15_compress_1 : List UInt8 := dkwJ15_compress_1 ++ dktJ15_compress_2
def dkwJ15_compress_0 : List UInt8 := [28, 188, 8, 78, 42, 27, 45, 3, 28, 184, 0, 123, 54, 4, 21, 4, 28, 159, 0, 47, 42, 27, 4, 120]
abbrev dktJ15_compress_0 : List UInt8 := dkwJ15_compress_0 ++ dktJ15_compress_1
theorem dksJ15_compress_0 : cJ15_compress.data.toList.drop 0 = dktJ15_compress_0 := by decide +kernel
theorem dksJ15_compress_1 : cJ15_compress.data.toList.drop 24 = dktJ15_compress_1 := dk_seg dksJ15_compress_0 24 rfl rfl
theorem dksJ15_compress_2 : cJ15_compress.data.toList.drop 48 = dktJ15_compress_2 := dk_seg dksJ15_compress_1 24 rfl rfl
theorem dJ15_compress_0 : decode cJ15_compress 0 = .ok (.iload_n 2, 1) := dk_28 (dk_at dksJ15_compress_0 0 rfl rfl)
theorem dJ15_compress_1 : decode cJ15_compress 1 = .ok (.newarray .byte, 2) := dk_188_8 (dk_at dksJ15_compress_0 1 rfl rfl)
theorem dJ15_compress_3 : decode cJ15_compress 3 = .ok (.astore_n 3, 1) := dk_78 (dk_at dksJ15_compress_0 3 rfl rfl)
theorem dJ15_compress_4 : decode cJ15_compress 4 = .ok (.aload_n 0, 1) := dk_42 (dk_at dksJ15_compress_0 4 rfl rfl)
theorem dJ15_compress_5 : decode cJ15_compress 5 = .ok (.iload_n 1, 1) := dk_27 (dk_at dksJ15_compress_0 5 rfl rfl)
theorem dJ15_compress_6 : decode cJ15_compress 6 = .ok (.aload_n 3, 1) := dk_45 (dk_at dksJ15_compress_0 6 rfl rfl)
theorem dJ15_compress_7 : decode cJ15_compress 7 = .ok (.iconst 0, 1) := dk_3 (dk_at dksJ15_compress_0 7 rfl rfl)
theorem dJ15_compress_8 : decode cJ15_compress 8 = .ok (.iload_n 2, 1) := dk_28 (dk_at dksJ15_compress_0 8 rfl rfl)
theorem dJ15_compress_9 : decode cJ15_compress 9 = .ok (.invokestatic 123, 3) := dk_184 0 123 (dk_at dksJ15_compress_0 9 rfl rfl)
theorem dJ15_compress_12 : decode cJ15_compress 12 = .ok (.istore 4, 2) := dk_54 4 (dk_at dksJ15_compress_0 12 rfl rfl)
theorem dJ15_compress_14 : decode cJ15_compress 14 = .ok (.iload 4, 2) := dk_21 4 (dk_at dksJ15_compress_0 14 rfl rfl)
theorem dJ15_compress_16 : decode cJ15_compress 16 = .ok (.iload_n 2, 1) := dk_28 (dk_at dksJ15_compress_0 16 rfl rfl)
theorem dJ15_compress_17 : decode cJ15_compress 17 = .ok (.if_icmp .eq 47, 3) := dk_159 0 47 (dk_at dksJ15_compress_0 17 rfl rfl)
theorem dJ15_compress_20 : decode cJ15_compress 20 = .ok (.aload_n 0, 1) := dk_42 (dk_at dksJ15_compress_0 20 rfl rfl)
theorem dJ15_compress_21 : decode cJ15_compress 21 = .ok (.iload_n 1, 1) := dk_27 (dk_at dksJ15_compress_0 21 rfl rfl)
theorem dJ15_compress_22 : decode cJ15_compress 22 = .ok (.iconst 1, 1) := dk_4 (dk_at dksJ15_compress_0 22 rfl rfl)
theorem dJ15_compress_23 : decode cJ15_compress 23 = .ok (.ishl, 1) := dk_120 (dk_at dksJ15_compress_0 23 rfl rfl)
theorem dJ15_compress_24 : decode cJ15_compress 24 = .ok (.iload_n 1, 1) := dk_27 (dk_at dksJ15_compress_1 0 rfl rfl)
theorem dJ15_compress_25 : decode cJ15_compress 25 = .ok (.iload_n 2, 1) := dk_28 (dk_at dksJ15_compress_1 1 rfl rfl)
theorem dJ15_compress_26 : decode cJ15_compress 26 = .ok (.iadd, 1) := dk_96 (dk_at dksJ15_compress_1 2 rfl rfl)
theorem dJ15_compress_27 : decode cJ15_compress 27 = .ok (.invokestatic 11, 3) := dk_184 0 11 (dk_at dksJ15_compress_1 3 rfl rfl)
theorem dJ15_compress_30 : decode cJ15_compress 30 = .ok (.invokestatic 126, 3) := dk_184 0 126 (dk_at dksJ15_compress_1 6 rfl rfl)
theorem dJ15_compress_33 : decode cJ15_compress 33 = .ok (.astore 5, 2) := dk_58 5 (dk_at dksJ15_compress_1 9 rfl rfl)
theorem dJ15_compress_35 : decode cJ15_compress 35 = .ok (.aload 5, 2) := dk_25 5 (dk_at dksJ15_compress_1 11 rfl rfl)
theorem dJ15_compress_37 : decode cJ15_compress 37 = .ok (.iload 4, 2) := dk_21 4 (dk_at dksJ15_compress_1 13 rfl rfl)
theorem dJ15_compress_39 : decode cJ15_compress 39 = .ok (.invokestatic 71, 3) := dk_184 0 71 (dk_at dksJ15_compress_1 15 rfl rfl)
theorem dJ15_compress_42 : decode cJ15_compress 42 = .ok (.sipush 255, 3) := dk_17 0 255 (dk_at dksJ15_compress_1 18 rfl rfl)
theorem dJ15_compress_45 : decode cJ15_compress 45 = .ok (.if_icmp .gt 16, 3) := dk_163 0 16 (dk_at dksJ15_compress_1 21 rfl rfl)
theorem dJ15_compress_48 : decode cJ15_compress 48 = .ok (.aload 5, 2) := dk_25 5 (dk_at dksJ15_compress_2 0 rfl rfl)
theorem dJ15_compress_50 : decode cJ15_compress 50 = .ok (.iconst 0, 1) := dk_3 (dk_at dksJ15_compress_2 2 rfl rfl)
theorem dJ15_compress_51 : decode cJ15_compress 51 = .ok (.aload_n 3, 1) := dk_45 (dk_at dksJ15_compress_2 3 rfl rfl)
theorem dJ15_compress_52 : decode cJ15_compress 52 = .ok (.iconst 0, 1) := dk_3 (dk_at dksJ15_compress_2 4 rfl rfl)
theorem dJ15_compress_53 : decode cJ15_compress 53 = .ok (.iload_n 2, 1) := dk_28 (dk_at dksJ15_compress_2 5 rfl rfl)
theorem dJ15_compress_54 : decode cJ15_compress 54 = .ok (.invokestatic 123, 3) := dk_184 0 123 (dk_at dksJ15_compress_2 6 rfl rfl)
theorem dJ15_compress_57 : decode cJ15_compress 57 = .ok (.iload_n 2, 1) := dk_28 (dk_at dksJ15_compress_2 9 rfl rfl)
theorem dJ15_compress_58 : decode cJ15_compress 58 = .ok (.if_icmp .eq 6, 3) := dk_159 0 6 (dk_at dksJ15_compress_2 10 rfl rfl)
theorem dJ15_compress_61 : decode cJ15_compress 61 = .ok (.aload 5, 2) := dk_25 5 (dk_at dksJ15_compress_2 13 rfl rfl)
theorem dJ15_compress_63 : decode cJ15_compress 63 = .ok (.areturn, 1) := dk_176 (dk_at dksJ15_compress_2 15 rfl rfl)
theorem dJ15_compress_64 : decode cJ15_compress 64 = .ok (.aload_n 3, 1) := dk_45 (dk_at dksJ15_compress_2 16 rfl rfl)
theorem dJ15_compress_65 : decode cJ15_compress 65 = .ok (.areturn, 1) := dk_176 (dk_at dksJ15_compress_2 17 rfl rfl)
abbrev cJ15_compress_2 : ByteArray := prog_39_method_22_code
def yJ15_compress_2 : MethodName := ⟨RJ15, "compress", "([BI[BII)I"⟩
def dkwJ15_compress_2_2 : List UInt8 := [132, 5, 1, 167, 255, 216, 21, 4, 172]
abbrev dktJ15_compress_2_2 : List UInt8 := dkwJ15_compress_2_2 ++ []
def dkwJ15_compress_2_1 : List UInt8 := [21, 6, 17, 0, 255, 164, 0, 6, 21, 5, 172, 44, 29, 21, 6, 145, 84, 132, 1, 1, 132, 3, 1]
abbrev dktJ15_compress_2_1 : List UInt8 := dkwJ15_compress_2_1 ++ dktJ15_compress_2_2
def dkwJ15_compress_2_0 : List UInt8 := [27, 21, 4, 42, 184, 0, 173, 3, 54, 5, 21, 5, 21, 4, 162, 0, 39, 42, 27, 184, 0, 71, 54, 6]
abbrev dktJ15_compress_2_0 : List UInt8 := dkwJ15_compress_2_0 ++ dktJ15_compress_2_1
theorem dksJ15_compress_2_0 : cJ15_compress_2.data.toList.drop 0 = dktJ15_compress_2_0 := by decide +kernel
theorem dksJ15_compress_2_1 : cJ15_compress_2.data.toList.drop 24 = dktJ15_compress_2_1 := dk_seg dksJ15_compress_2_0 24 rfl rfl
theorem dksJ15_compress_2_2 : cJ15_compress_2.data.toList.drop 47 = dktJ15_compress_2_2 := dk_seg dksJ15_compress_2_1 23 rfl rfl
theorem dJ15_compress_2_0 : decode cJ15_compress_2 0 = .ok (.iload_n 1, 1) := dk_27 (dk_at dksJ15_compress_2_0 0 rfl rfl)
theorem dJ15_compress_2_1 : decode cJ15_compress_2 1 = .ok (.iload 4, 2) := dk_21 4 (dk_at dksJ15_compress_2_0 1 rfl rfl)
theorem dJ15_compress_2_3 : decode cJ15_compress_2 3 = .ok (.aload_n 0, 1) := dk_42 (dk_at dksJ15_compress_2_0 3 rfl rfl)
theorem dJ15_compress_2_4 : decode cJ15_compress_2 4 = .ok (.invokestatic 173, 3) := dk_184 0 173 (dk_at dksJ15_compress_2_0 4 rfl rfl)
theorem dJ15_compress_2_7 : decode cJ15_compress_2 7 = .ok (.iconst 0, 1) := dk_3 (dk_at dksJ15_compress_2_0 7 rfl rfl)
theorem dJ15_compress_2_8 : decode cJ15_compress_2 8 = .ok (.istore 5, 2) := dk_54 5 (dk_at dksJ15_compress_2_0 8 rfl rfl)
theorem dJ15_compress_2_10 : decode cJ15_compress_2 10 = .ok (.iload 5, 2) := dk_21 5 (dk_at dksJ15_compress_2_0 10 rfl rfl)
theorem dJ15_compress_2_12 : decode cJ15_compress_2 12 = .ok (.iload 4, 2) := dk_21 4 (dk_at dksJ15_compress_2_0 12 rfl rfl)
theorem dJ15_compress_2_14 : decode cJ15_compress_2 14 = .ok (.if_icmp .ge 39, 3) := dk_162 0 39 (dk_at dksJ15_compress_2_0 14 rfl rfl)
theorem dJ15_compress_2_17 : decode cJ15_compress_2 17 = .ok (.aload_n 0, 1) := dk_42 (dk_at dksJ15_compress_2_0 17 rfl rfl)
theorem dJ15_compress_2_18 : decode cJ15_compress_2 18 = .ok (.iload_n 1, 1) := dk_27 (dk_at dksJ15_compress_2_0 18 rfl rfl)
theorem dJ15_compress_2_19 : decode cJ15_compress_2 19 = .ok (.invokestatic 71, 3) := dk_184 0 71 (dk_at dksJ15_compress_2_0 19 rfl rfl)
theorem dJ15_compress_2_22 : decode cJ15_compress_2 22 = .ok (.istore 6, 2) := dk_54 6 (dk_at dksJ15_compress_2_0 22 rfl rfl)
theorem dJ15_compress_2_24 : decode cJ15_compress_2 24 = .ok (.iload 6, 2) := dk_21 6 (dk_at dksJ15_compress_2_1 0 rfl rfl)
theorem dJ15_compress_2_26 : decode cJ15_compress_2 26 = .ok (.sipush 255, 3) := dk_17 0 255 (dk_at dksJ15_compress_2_1 2 rfl rfl)
theorem dJ15_compress_2_29 : decode cJ15_compress_2 29 = .ok (.if_icmp .le 6, 3) := dk_164 0 6 (dk_at dksJ15_compress_2_1 5 rfl rfl)
theorem dJ15_compress_2_32 : decode cJ15_compress_2 32 = .ok (.iload 5, 2) := dk_21 5 (dk_at dksJ15_compress_2_1 8 rfl rfl)
theorem dJ15_compress_2_34 : decode cJ15_compress_2 34 = .ok (.ireturn, 1) := dk_172 (dk_at dksJ15_compress_2_1 10 rfl rfl)
theorem dJ15_compress_2_35 : decode cJ15_compress_2 35 = .ok (.aload_n 2, 1) := dk_44 (dk_at dksJ15_compress_2_1 11 rfl rfl)
theorem dJ15_compress_2_36 : decode cJ15_compress_2 36 = .ok (.iload_n 3, 1) := dk_29 (dk_at dksJ15_compress_2_1 12 rfl rfl)
theorem dJ15_compress_2_37 : decode cJ15_compress_2 37 = .ok (.iload 6, 2) := dk_21 6 (dk_at dksJ15_compress_2_1 13 rfl rfl)
theorem dJ15_compress_2_39 : decode cJ15_compress_2 39 = .ok (.i2b, 1) := dk_145 (dk_at dksJ15_compress_2_1 15 rfl rfl)
theorem dJ15_compress_2_40 : decode cJ15_compress_2 40 = .ok (.bastore, 1) := dk_84 (dk_at dksJ15_compress_2_1 16 rfl rfl)
theorem dJ15_compress_2_41 : decode cJ15_compress_2 41 = .ok (.iinc 1 1, 3) := dk_132 1 1 (dk_at dksJ15_compress_2_1 17 rfl rfl)
theorem dJ15_compress_2_44 : decode cJ15_compress_2 44 = .ok (.iinc 3 1, 3) := dk_132 3 1 (dk_at dksJ15_compress_2_1 20 rfl rfl)
theorem dJ15_compress_2_47 : decode cJ15_compress_2 47 = .ok (.iinc 5 1, 3) := dk_132 5 1 (dk_at dksJ15_compress_2_2 0 rfl rfl)
theorem dJ15_compress_2_50 : decode cJ15_compress_2 50 = .ok (.goto (-40), 3) := dk_167 255 216 (dk_at dksJ15_compress_2_2 3 rfl rfl)
theorem dJ15_compress_2_53 : decode cJ15_compress_2 53 = .ok (.iload 4, 2) := dk_21 4 (dk_at dksJ15_compress_2_2 6 rfl rfl)
theorem dJ15_compress_2_55 : decode cJ15_compress_2 55 = .ok (.ireturn, 1) := dk_172 (dk_at dksJ15_compress_2_2 8 rfl rfl)
abbrev cJ15_coderFromArrayLen : ByteArray := prog_39_method_15_code
def yJ15_coderFromArrayLen : MethodName := ⟨RJ15, "coderFromArrayLen", "([BI)B"⟩
def dkwJ15_coderFromArrayLen_0 : List UInt8 := [27, 42, 190, 100, 16, 31, 124, 145, 172]
abbrev dktJ15_coderFromArrayLen_0 : List UInt8 := dkwJ15_coderFromArrayLen_0 ++ []
theorem dksJ15_coderFromArrayLen_0 : cJ15_coderFromArrayLen.data.toList.drop 0 = dktJ15_coderFromArrayLen_0 := by decide +kernel
theorem dJ15_coderFromArrayLen_0 : decode cJ15_coderFromArrayLen 0 = .ok (.iload_n 1, 1) := dk_27 (dk_at dksJ15_coderFromArrayLen_0 0 rfl rfl)
theorem dJ15_coderFromArrayLen_1 : decode cJ15_coderFromArrayLen 1 = .ok (.aload_n 0, 1) := dk_42 (dk_at dksJ15_coderFromArrayLen_0 1 rfl rfl)
theorem dJ15_coderFromArrayLen_2 : decode cJ15_coderFromArrayLen 2 = .ok (.arraylength, 1) := dk_190 (dk_at dksJ15_coderFromArrayLen_0 2 rfl rfl)
theorem dJ15_coderFromArrayLen_3 : decode cJ15_coderFromArrayLen 3 = .ok (.isub, 1) := dk_100 (dk_at dksJ15_coderFromArrayLen_0 3 rfl rfl)
theorem dJ15_coderFromArrayLen_4 : decode cJ15_coderFromArrayLen 4 = .ok (.bipush 31, 2) := dk_16 31 (dk_at dksJ15_coderFromArrayLen_0 4 rfl rfl)
theorem dJ15_coderFromArrayLen_6 : decode cJ15_coderFromArrayLen 6 = .ok (.iushr, 1) := dk_124 (dk_at dksJ15_coderFromArrayLen_0 6 rfl rfl)
theorem dJ15_coderFromArrayLen_7 : decode cJ15_coderFromArrayLen 7 = .ok (.i2b, 1) := dk_145 (dk_at dksJ15_coderFromArrayLen_0 7 rfl rfl)
theorem dJ15_coderFromArrayLen_8 : decode cJ15_coderFromArrayLen 8 = .ok (.ireturn, 1) := dk_172 (dk_at dksJ15_coderFromArrayLen_0 8 rfl rfl)
abbrev cJ15_compress_3 : ByteArray := prog_39_method_16_code
def yJ15_compress_3 : MethodName := ⟨RJ15, "compress", "([CII)[B"⟩
def dkwJ15_compress_3_2 : List UInt8 := [184, 0, 123, 28, 159, 0, 6, 25, 5, 176, 45, 176]
abbrev dktJ15_compress_3_2 : List UInt8 := dkwJ15_compress_3_2 ++ []
def dkwJ15_compress_3_1 : List UInt8 := [184, 0, 119, 58, 5, 25, 5, 21, 4, 184, 0, 71, 17, 0, 255, 163, 0, 16, 25, 5, 3, 45, 3, 28]
abbrev dktJ15_compress_3_1 : List UInt8 := dkwJ15_compress_3_1 ++ dktJ15_compress_3_2
def dkwJ15_compress_3_0 : List UInt8 := [28, 188, 8, 78, 42, 27, 45, 3, 28, 184, 0, 115, 54, 4, 21, 4, 28, 159, 0, 40, 42, 27, 28]
abbrev dktJ15_compress_3_0 : List UInt8 := dkwJ15_compress_3_0 ++ dktJ15_compress_3_1
theorem dksJ15_compress_3_0 : cJ15_compress_3.data.toList.drop 0 = dktJ15_compress_3_0 := by decide +kernel
theorem dksJ15_compress_3_1 : cJ15_compress_3.data.toList.drop 23 = dktJ15_compress_3_1 := dk_seg dksJ15_compress_3_0 23 rfl rfl
theorem dksJ15_compress_3_2 : cJ15_compress_3.data.toList.drop 47 = dktJ15_compress_3_2 := dk_seg dksJ15_compress_3_1 24 rfl rfl
theorem dJ15_compress_3_0 : decode cJ15_compress_3 0 = .ok (.iload_n 2, 1) := dk_28 (dk_at dksJ15_compress_3_0 0 rfl rfl)
theorem dJ15_compress_3_1 : decode cJ15_compress_3 1 = .ok (.newarray .byte, 2) := dk_188_8 (dk_at dksJ15_compress_3_0 1 rfl rfl)
theorem dJ15_compress_3_3 : decode cJ15_compress_3 3 = .ok (.astore_n 3, 1) := dk_78 (dk_at dksJ15_compress_3_0 3 rfl rfl)
theorem dJ15_compress_3_4 : decode cJ15_compress_3 4 = .ok (.aload_n 0, 1) := dk_42 (dk_at dksJ15_compress_3_0 4 rfl rfl)
theorem dJ15_compress_3_5 : decode cJ15_compress_3 5 = .ok (.iload_n 1, 1) := dk_27 (dk_at dksJ15_compress_3_0 5 rfl rfl)
theorem dJ15_compress_3_6 : decode cJ15_compress_3 6 = .ok (.aload_n 3, 1) := dk_45 (dk_at dksJ15_compress_3_0 6 rfl rfl)
theorem dJ15_compress_3_7 : decode cJ15_compress_3 7 = .ok (.iconst 0, 1) := dk_3 (dk_at dksJ15_compress_3_0 7 rfl rfl)
theorem dJ15_compress_3_8 : decode cJ15_compress_3 8 = .ok (.iload_n 2, 1) := dk_28 (dk_at dksJ15_compress_3_0 8 rfl rfl)
theorem dJ15_compress_3_9 : decode cJ15_compress_3 9 = .ok (.invokestatic 115, 3) := dk_184 0 115 (dk_at dksJ15_compress_3_0 9 rfl rfl)
theorem dJ15_compress_3_12 : decode cJ15_compress_3 12 = .ok (.istore 4, 2) := dk_54 4 (dk_at dksJ15_compress_3_0 12 rfl rfl)
theorem dJ15_compress_3_14 : decode cJ15_compress_3 14 = .ok (.iload 4, 2) := dk_21 4 (dk_at dksJ15_compress_3_0 14 rfl rfl)
theorem dJ15_compress_3_16 : decode cJ15_compress_3 16 = .ok (.iload_n 2, 1) := dk_28 (dk_at dksJ15_compress_3_0 16 rfl rfl)
theorem dJ15_compress_3_17 : decode cJ15_compress_3 17 = .ok (.if_icmp .eq 40, 3) := dk_159 0 40 (dk_at dksJ15_compress_3_0 17 rfl rfl)
theorem dJ15_compress_3_20 : decode cJ15_compress_3 20 = .ok (.aload_n 0, 1) := dk_42 (dk_at dksJ15_compress_3_0 20 rfl rfl)
theorem dJ15_compress_3_21 : decode cJ15_compress_3 21 = .ok (.iload_n 1, 1) := dk_27 (dk_at dksJ15_compress_3_0 21 rfl rfl)
theorem dJ15_compress_3_22 : decode cJ15_compress_3 22 = .ok (.iload_n 2, 1) := dk_28 (dk_at dksJ15_compress_3_0 22 rfl rfl)
theorem dJ15_compress_3_23 : decode cJ15_compress_3 23 = .ok (.invokestatic 119, 3) := dk_184 0 119 (dk_at dksJ15_compress_3_1 0 rfl rfl)
theorem dJ15_compress_3_26 : decode cJ15_compress_3 26 = .ok (.astore 5, 2) := dk_58 5 (dk_at dksJ15_compress_3_1 3 rfl rfl)
theorem dJ15_compress_3_28 : decode cJ15_compress_3 28 = .ok (.aload 5, 2) := dk_25 5 (dk_at dksJ15_compress_3_1 5 rfl rfl)
theorem dJ15_compress_3_30 : decode cJ15_compress_3 30 = .ok (.iload 4, 2) := dk_21 4 (dk_at dksJ15_compress_3_1 7 rfl rfl)
theorem dJ15_compress_3_32 : decode cJ15_compress_3 32 = .ok (.invokestatic 71, 3) := dk_184 0 71 (dk_at dksJ15_compress_3_1 9 rfl rfl)
theorem dJ15_compress_3_35 : decode cJ15_compress_3 35 = .ok (.sipush 255, 3) := dk_17 0 255 (dk_at dksJ15_compress_3_1 12 rfl rfl)
theorem dJ15_compress_3_38 : decode cJ15_compress_3 38 = .ok (.if_icmp .gt 16, 3) := dk_163 0 16 (dk_at dksJ15_compress_3_1 15 rfl rfl)
theorem dJ15_compress_3_41 : decode cJ15_compress_3 41 = .ok (.aload 5, 2) := dk_25 5 (dk_at dksJ15_compress_3_1 18 rfl rfl)
theorem dJ15_compress_3_43 : decode cJ15_compress_3 43 = .ok (.iconst 0, 1) := dk_3 (dk_at dksJ15_compress_3_1 20 rfl rfl)
theorem dJ15_compress_3_44 : decode cJ15_compress_3 44 = .ok (.aload_n 3, 1) := dk_45 (dk_at dksJ15_compress_3_1 21 rfl rfl)
theorem dJ15_compress_3_45 : decode cJ15_compress_3 45 = .ok (.iconst 0, 1) := dk_3 (dk_at dksJ15_compress_3_1 22 rfl rfl)
theorem dJ15_compress_3_46 : decode cJ15_compress_3 46 = .ok (.iload_n 2, 1) := dk_28 (dk_at dksJ15_compress_3_1 23 rfl rfl)
theorem dJ15_compress_3_47 : decode cJ15_compress_3 47 = .ok (.invokestatic 123, 3) := dk_184 0 123 (dk_at dksJ15_compress_3_2 0 rfl rfl)
theorem dJ15_compress_3_50 : decode cJ15_compress_3 50 = .ok (.iload_n 2, 1) := dk_28 (dk_at dksJ15_compress_3_2 3 rfl rfl)
theorem dJ15_compress_3_51 : decode cJ15_compress_3 51 = .ok (.if_icmp .eq 6, 3) := dk_159 0 6 (dk_at dksJ15_compress_3_2 4 rfl rfl)
theorem dJ15_compress_3_54 : decode cJ15_compress_3 54 = .ok (.aload 5, 2) := dk_25 5 (dk_at dksJ15_compress_3_2 7 rfl rfl)
theorem dJ15_compress_3_56 : decode cJ15_compress_3 56 = .ok (.areturn, 1) := dk_176 (dk_at dksJ15_compress_3_2 9 rfl rfl)
theorem dJ15_compress_3_57 : decode cJ15_compress_3 57 = .ok (.aload_n 3, 1) := dk_45 (dk_at dksJ15_compress_3_2 10 rfl rfl)
theorem dJ15_compress_3_58 : decode cJ15_compress_3 58 = .ok (.areturn, 1) := dk_176 (dk_at dksJ15_compress_3_2 11 rfl rfl)
abbrev cJ15_compress_4 : ByteArray := prog_39_method_21_code
def yJ15_compress_4 : MethodName := ⟨RJ15, "compress", "([CI[BII)I"⟩
def dkwJ15_compress_4_1 : List UInt8 := [21, 5, 172, 44, 29, 21, 6, 145, 84, 132, 1, 1, 132, 3, 1, 132, 5, 1, 167, 255, 218, 21, 4, 172]
abbrev dktJ15_compress_4_1 : List UInt8 := dkwJ15_compress_4_1 ++ []
def dkwJ15_compress_4_0 : List UInt8 := [3, 54, 5, 21, 5, 21, 4, 162, 0, 37, 42, 27, 52, 54, 6, 21, 6, 17, 0, 255, 164, 0, 6]
abbrev dktJ15_compress_4_0 : List UInt8 := dkwJ15_compress_4_0 ++ dktJ15_compress_4_1
theorem dksJ15_compress_4_0 : cJ15_compress_4.data.toList.drop 0 = dktJ15_compress_4_0 := by decide +kernel
theorem dksJ15_compress_4_1 : cJ15_compress_4.data.toList.drop 23 = dktJ15_compress_4_1 := dk_seg dksJ15_compress_4_0 23 rfl rfl
theorem dJ15_compress_4_0 : decode cJ15_compress_4 0 = .ok (.iconst 0, 1) := dk_3 (dk_at dksJ15_compress_4_0 0 rfl rfl)
theorem dJ15_compress_4_1 : decode cJ15_compress_4 1 = .ok (.istore 5, 2) := dk_54 5 (dk_at dksJ15_compress_4_0 1 rfl rfl)
theorem dJ15_compress_4_3 : decode cJ15_compress_4 3 = .ok (.iload 5, 2) := dk_21 5 (dk_at dksJ15_compress_4_0 3 rfl rfl)
theorem dJ15_compress_4_5 : decode cJ15_compress_4 5 = .ok (.iload 4, 2) := dk_21 4 (dk_at dksJ15_compress_4_0 5 rfl rfl)
theorem dJ15_compress_4_7 : decode cJ15_compress_4 7 = .ok (.if_icmp .ge 37, 3) := dk_162 0 37 (dk_at dksJ15_compress_4_0 7 rfl rfl)
theorem dJ15_compress_4_10 : decode cJ15_compress_4 10 = .ok (.aload_n 0, 1) := dk_42 (dk_at dksJ15_compress_4_0 10 rfl rfl)
theorem dJ15_compress_4_11 : decode cJ15_compress_4 11 = .ok (.iload_n 1, 1) := dk_27 (dk_at dksJ15_compress_4_0 11 rfl rfl)
theorem dJ15_compress_4_12 : decode cJ15_compress_4 12 = .ok (.caload, 1) := dk_52 (dk_at dksJ15_compress_4_0 12 rfl rfl)
theorem dJ15_compress_4_13 : decode cJ15_compress_4 13 = .ok (.istore 6, 2) := dk_54 6 (dk_at dksJ15_compress_4_0 13 rfl rfl)
theorem dJ15_compress_4_15 : decode cJ15_compress_4 15 = .ok (.iload 6, 2) := dk_21 6 (dk_at dksJ15_compress_4_0 15 rfl rfl)
theorem dJ15_compress_4_17 : decode cJ15_compress_4 17 = .ok (.sipush 255, 3) := dk_17 0 255 (dk_at dksJ15_compress_4_0 17 rfl rfl)
theorem dJ15_compress_4_20 : decode cJ15_compress_4 20 = .ok (.if_icmp .le 6, 3) := dk_164 0 6 (dk_at dksJ15_compress_4_0 20 rfl rfl)
theorem dJ15_compress_4_23 : decode cJ15_compress_4 23 = .ok (.iload 5, 2) := dk_21 5 (dk_at dksJ15_compress_4_1 0 rfl rfl)
theorem dJ15_compress_4_25 : decode cJ15_compress_4 25 = .ok (.ireturn, 1) := dk_172 (dk_at dksJ15_compress_4_1 2 rfl rfl)
theorem dJ15_compress_4_26 : decode cJ15_compress_4 26 = .ok (.aload_n 2, 1) := dk_44 (dk_at dksJ15_compress_4_1 3 rfl rfl)
theorem dJ15_compress_4_27 : decode cJ15_compress_4 27 = .ok (.iload_n 3, 1) := dk_29 (dk_at dksJ15_compress_4_1 4 rfl rfl)
theorem dJ15_compress_4_28 : decode cJ15_compress_4 28 = .ok (.iload 6, 2) := dk_21 6 (dk_at dksJ15_compress_4_1 5 rfl rfl)
theorem dJ15_compress_4_30 : decode cJ15_compress_4 30 = .ok (.i2b, 1) := dk_145 (dk_at dksJ15_compress_4_1 7 rfl rfl)
theorem dJ15_compress_4_31 : decode cJ15_compress_4 31 = .ok (.bastore, 1) := dk_84 (dk_at dksJ15_compress_4_1 8 rfl rfl)
theorem dJ15_compress_4_32 : decode cJ15_compress_4 32 = .ok (.iinc 1 1, 3) := dk_132 1 1 (dk_at dksJ15_compress_4_1 9 rfl rfl)
theorem dJ15_compress_4_35 : decode cJ15_compress_4 35 = .ok (.iinc 3 1, 3) := dk_132 3 1 (dk_at dksJ15_compress_4_1 12 rfl rfl)
theorem dJ15_compress_4_38 : decode cJ15_compress_4 38 = .ok (.iinc 5 1, 3) := dk_132 5 1 (dk_at dksJ15_compress_4_1 15 rfl rfl)
theorem dJ15_compress_4_41 : decode cJ15_compress_4 41 = .ok (.goto (-38), 3) := dk_167 255 218 (dk_at dksJ15_compress_4_1 18 rfl rfl)
theorem dJ15_compress_4_44 : decode cJ15_compress_4 44 = .ok (.iload 4, 2) := dk_21 4 (dk_at dksJ15_compress_4_1 21 rfl rfl)
theorem dJ15_compress_4_46 : decode cJ15_compress_4 46 = .ok (.ireturn, 1) := dk_172 (dk_at dksJ15_compress_4_1 23 rfl rfl)
abbrev cJ15_toBytes : ByteArray := prog_39_method_14_code
def yJ15_toBytes : MethodName := ⟨RJ15, "toBytes", "([CII)[B"⟩
def dkwJ15_toBytes_1 : List UInt8 := [132, 1, 1, 132, 4, 1, 167, 255, 235, 45, 176]
abbrev dktJ15_toBytes_1 : List UInt8 := dkwJ15_toBytes_1 ++ []
def dkwJ15_toBytes_0 : List UInt8 := [28, 184, 0, 107, 78, 3, 54, 4, 21, 4, 28, 162, 0, 21, 45, 21, 4, 42, 27, 52, 184, 0, 111]
abbrev dktJ15_toBytes_0 : List UInt8 := dkwJ15_toBytes_0 ++ dktJ15_toBytes_1
theorem dksJ15_toBytes_0 : cJ15_toBytes.data.toList.drop 0 = dktJ15_toBytes_0 := by decide +kernel
theorem dksJ15_toBytes_1 : cJ15_toBytes.data.toList.drop 23 = dktJ15_toBytes_1 := dk_seg dksJ15_toBytes_0 23 rfl rfl
theorem dJ15_toBytes_0 : decode cJ15_toBytes 0 = .ok (.iload_n 2, 1) := dk_28 (dk_at dksJ15_toBytes_0 0 rfl rfl)
theorem dJ15_toBytes_1 : decode cJ15_toBytes 1 = .ok (.invokestatic 107, 3) := dk_184 0 107 (dk_at dksJ15_toBytes_0 1 rfl rfl)
theorem dJ15_toBytes_4 : decode cJ15_toBytes 4 = .ok (.astore_n 3, 1) := dk_78 (dk_at dksJ15_toBytes_0 4 rfl rfl)
theorem dJ15_toBytes_5 : decode cJ15_toBytes 5 = .ok (.iconst 0, 1) := dk_3 (dk_at dksJ15_toBytes_0 5 rfl rfl)
theorem dJ15_toBytes_6 : decode cJ15_toBytes 6 = .ok (.istore 4, 2) := dk_54 4 (dk_at dksJ15_toBytes_0 6 rfl rfl)
theorem dJ15_toBytes_8 : decode cJ15_toBytes 8 = .ok (.iload 4, 2) := dk_21 4 (dk_at dksJ15_toBytes_0 8 rfl rfl)
theorem dJ15_toBytes_10 : decode cJ15_toBytes 10 = .ok (.iload_n 2, 1) := dk_28 (dk_at dksJ15_toBytes_0 10 rfl rfl)
theorem dJ15_toBytes_11 : decode cJ15_toBytes 11 = .ok (.if_icmp .ge 21, 3) := dk_162 0 21 (dk_at dksJ15_toBytes_0 11 rfl rfl)
theorem dJ15_toBytes_14 : decode cJ15_toBytes 14 = .ok (.aload_n 3, 1) := dk_45 (dk_at dksJ15_toBytes_0 14 rfl rfl)
theorem dJ15_toBytes_15 : decode cJ15_toBytes 15 = .ok (.iload 4, 2) := dk_21 4 (dk_at dksJ15_toBytes_0 15 rfl rfl)
theorem dJ15_toBytes_17 : decode cJ15_toBytes 17 = .ok (.aload_n 0, 1) := dk_42 (dk_at dksJ15_toBytes_0 17 rfl rfl)
theorem dJ15_toBytes_18 : decode cJ15_toBytes 18 = .ok (.iload_n 1, 1) := dk_27 (dk_at dksJ15_toBytes_0 18 rfl rfl)
theorem dJ15_toBytes_19 : decode cJ15_toBytes 19 = .ok (.caload, 1) := dk_52 (dk_at dksJ15_toBytes_0 19 rfl rfl)
theorem dJ15_toBytes_20 : decode cJ15_toBytes 20 = .ok (.invokestatic 111, 3) := dk_184 0 111 (dk_at dksJ15_toBytes_0 20 rfl rfl)
theorem dJ15_toBytes_23 : decode cJ15_toBytes 23 = .ok (.iinc 1 1, 3) := dk_132 1 1 (dk_at dksJ15_toBytes_1 0 rfl rfl)
theorem dJ15_toBytes_26 : decode cJ15_toBytes 26 = .ok (.iinc 4 1, 3) := dk_132 4 1 (dk_at dksJ15_toBytes_1 3 rfl rfl)
theorem dJ15_toBytes_29 : decode cJ15_toBytes 29 = .ok (.goto (-21), 3) := dk_167 255 235 (dk_at dksJ15_toBytes_1 6 rfl rfl)
theorem dJ15_toBytes_32 : decode cJ15_toBytes 32 = .ok (.aload_n 3, 1) := dk_45 (dk_at dksJ15_toBytes_1 9 rfl rfl)
theorem dJ15_toBytes_33 : decode cJ15_toBytes 33 = .ok (.areturn, 1) := dk_176 (dk_at dksJ15_toBytes_1 10 rfl rfl)
abbrev cJ15_newString : ByteArray := prog_39_method_69_code
def yJ15_newString : MethodName := ⟨RJ15, "newString", "([BII)Ljava/lang/String;"⟩
def dkwJ15_newString_2 : List UInt8 := [42, 27, 4, 120, 29, 4, 120, 184, 0, 126, 4, 183, 1, 7, 176]
abbrev dktJ15_newString_2 : List UInt8 := dkwJ15_newString_2 ++ []
def dkwJ15_newString_1 : List UInt8 := [184, 1, 3, 54, 4, 187, 0, 3, 89, 45, 21, 4, 183, 1, 7, 176, 27, 28, 96, 62, 187, 0, 3, 89]
abbrev dktJ15_newString_1 : List UInt8 := dkwJ15_newString_1 ++ dktJ15_newString_2
def dkwJ15_newString_0 : List UInt8 := [28, 154, 0, 7, 19, 1, 39, 176, 178, 0, 251, 153, 0, 28, 42, 27, 28, 184, 1, 1, 78, 45, 28]
abbrev dktJ15_newString_0 : List UInt8 := dkwJ15_newString_0 ++ dktJ15_newString_1
theorem dksJ15_newString_0 : cJ15_newString.data.toList.drop 0 = dktJ15_newString_0 := by decide +kernel
theorem dksJ15_newString_1 : cJ15_newString.data.toList.drop 23 = dktJ15_newString_1 := dk_seg dksJ15_newString_0 23 rfl rfl
theorem dksJ15_newString_2 : cJ15_newString.data.toList.drop 47 = dktJ15_newString_2 := dk_seg dksJ15_newString_1 24 rfl rfl
theorem dJ15_newString_0 : decode cJ15_newString 0 = .ok (.iload_n 2, 1) := dk_28 (dk_at dksJ15_newString_0 0 rfl rfl)
theorem dJ15_newString_1 : decode cJ15_newString 1 = .ok (.ifCond .ne 7, 3) := dk_154 0 7 (dk_at dksJ15_newString_0 1 rfl rfl)
theorem dJ15_newString_4 : decode cJ15_newString 4 = .ok (.ldc_w 295, 3) := dk_19 1 39 (dk_at dksJ15_newString_0 4 rfl rfl)
theorem dJ15_newString_7 : decode cJ15_newString 7 = .ok (.areturn, 1) := dk_176 (dk_at dksJ15_newString_0 7 rfl rfl)
theorem dJ15_newString_8 : decode cJ15_newString 8 = .ok (.getstatic 251, 3) := dk_178 0 251 (dk_at dksJ15_newString_0 8 rfl rfl)
theorem dJ15_newString_11 : decode cJ15_newString 11 = .ok (.ifCond .eq 28, 3) := dk_153 0 28 (dk_at dksJ15_newString_0 11 rfl rfl)
theorem dJ15_newString_14 : decode cJ15_newString 14 = .ok (.aload_n 0, 1) := dk_42 (dk_at dksJ15_newString_0 14 rfl rfl)
theorem dJ15_newString_15 : decode cJ15_newString 15 = .ok (.iload_n 1, 1) := dk_27 (dk_at dksJ15_newString_0 15 rfl rfl)
theorem dJ15_newString_16 : decode cJ15_newString 16 = .ok (.iload_n 2, 1) := dk_28 (dk_at dksJ15_newString_0 16 rfl rfl)
theorem dJ15_newString_17 : decode cJ15_newString 17 = .ok (.invokestatic 257, 3) := dk_184 1 1 (dk_at dksJ15_newString_0 17 rfl rfl)
theorem dJ15_newString_20 : decode cJ15_newString 20 = .ok (.astore_n 3, 1) := dk_78 (dk_at dksJ15_newString_0 20 rfl rfl)
theorem dJ15_newString_21 : decode cJ15_newString 21 = .ok (.aload_n 3, 1) := dk_45 (dk_at dksJ15_newString_0 21 rfl rfl)
theorem dJ15_newString_22 : decode cJ15_newString 22 = .ok (.iload_n 2, 1) := dk_28 (dk_at dksJ15_newString_0 22 rfl rfl)
theorem dJ15_newString_23 : decode cJ15_newString 23 = .ok (.invokestatic 259, 3) := dk_184 1 3 (dk_at dksJ15_newString_1 0 rfl rfl)
theorem dJ15_newString_26 : decode cJ15_newString 26 = .ok (.istore 4, 2) := dk_54 4 (dk_at dksJ15_newString_1 3 rfl rfl)
theorem dJ15_newString_28 : decode cJ15_newString 28 = .ok (.new 3, 3) := dk_187 0 3 (dk_at dksJ15_newString_1 5 rfl rfl)
theorem dJ15_newString_31 : decode cJ15_newString 31 = .ok (.dup, 1) := dk_89 (dk_at dksJ15_newString_1 8 rfl rfl)
theorem dJ15_newString_32 : decode cJ15_newString 32 = .ok (.aload_n 3, 1) := dk_45 (dk_at dksJ15_newString_1 9 rfl rfl)
theorem dJ15_newString_33 : decode cJ15_newString 33 = .ok (.iload 4, 2) := dk_21 4 (dk_at dksJ15_newString_1 10 rfl rfl)
theorem dJ15_newString_35 : decode cJ15_newString 35 = .ok (.invokespecial 263, 3) := dk_183 1 7 (dk_at dksJ15_newString_1 12 rfl rfl)
theorem dJ15_newString_38 : decode cJ15_newString 38 = .ok (.areturn, 1) := dk_176 (dk_at dksJ15_newString_1 15 rfl rfl)
theorem dJ15_newString_39 : decode cJ15_newString 39 = .ok (.iload_n 1, 1) := dk_27 (dk_at dksJ15_newString_1 16 rfl rfl)
theorem dJ15_newString_40 : decode cJ15_newString 40 = .ok (.iload_n 2, 1) := dk_28 (dk_at dksJ15_newString_1 17 rfl rfl)
theorem dJ15_newString_41 : decode cJ15_newString 41 = .ok (.iadd, 1) := dk_96 (dk_at dksJ15_newString_1 18 rfl rfl)
theorem dJ15_newString_42 : decode cJ15_newString 42 = .ok (.istore_n 3, 1) := dk_62 (dk_at dksJ15_newString_1 19 rfl rfl)
theorem dJ15_newString_43 : decode cJ15_newString 43 = .ok (.new 3, 3) := dk_187 0 3 (dk_at dksJ15_newString_1 20 rfl rfl)
theorem dJ15_newString_46 : decode cJ15_newString 46 = .ok (.dup, 1) := dk_89 (dk_at dksJ15_newString_1 23 rfl rfl)
theorem dJ15_newString_47 : decode cJ15_newString 47 = .ok (.aload_n 0, 1) := dk_42 (dk_at dksJ15_newString_2 0 rfl rfl)
theorem dJ15_newString_48 : decode cJ15_newString 48 = .ok (.iload_n 1, 1) := dk_27 (dk_at dksJ15_newString_2 1 rfl rfl)
theorem dJ15_newString_49 : decode cJ15_newString 49 = .ok (.iconst 1, 1) := dk_4 (dk_at dksJ15_newString_2 2 rfl rfl)
theorem dJ15_newString_50 : decode cJ15_newString 50 = .ok (.ishl, 1) := dk_120 (dk_at dksJ15_newString_2 3 rfl rfl)
theorem dJ15_newString_51 : decode cJ15_newString 51 = .ok (.iload_n 3, 1) := dk_29 (dk_at dksJ15_newString_2 4 rfl rfl)
theorem dJ15_newString_52 : decode cJ15_newString 52 = .ok (.iconst 1, 1) := dk_4 (dk_at dksJ15_newString_2 5 rfl rfl)
theorem dJ15_newString_53 : decode cJ15_newString 53 = .ok (.ishl, 1) := dk_120 (dk_at dksJ15_newString_2 6 rfl rfl)
theorem dJ15_newString_54 : decode cJ15_newString 54 = .ok (.invokestatic 126, 3) := dk_184 0 126 (dk_at dksJ15_newString_2 7 rfl rfl)
theorem dJ15_newString_57 : decode cJ15_newString 57 = .ok (.iconst 1, 1) := dk_4 (dk_at dksJ15_newString_2 10 rfl rfl)
theorem dJ15_newString_58 : decode cJ15_newString 58 = .ok (.invokespecial 263, 3) := dk_183 1 7 (dk_at dksJ15_newString_2 11 rfl rfl)
theorem dJ15_newString_61 : decode cJ15_newString 61 = .ok (.areturn, 1) := dk_176 (dk_at dksJ15_newString_2 14 rfl rfl)
abbrev cJ15_putCharSB : ByteArray := prog_39_method_71_code
def yJ15_putCharSB : MethodName := ⟨RJ15, "putCharSB", "([BII)V"⟩
def dkwJ15_putCharSB_0 : List UInt8 := [27, 42, 184, 0, 67, 42, 27, 28, 184, 0, 111, 177]
abbrev dktJ15_putCharSB_0 : List UInt8 := dkwJ15_putCharSB_0 ++ []
theorem dksJ15_putCharSB_0 : cJ15_putCharSB.data.toList.drop 0 = dktJ15_putCharSB_0 := by decide +kernel
theorem dJ15_putCharSB_0 : decode cJ15_putCharSB 0 = .ok (.iload_n 1, 1) := dk_27 (dk_at dksJ15_putCharSB_0 0 rfl rfl)
theorem dJ15_putCharSB_1 : decode cJ15_putCharSB 1 = .ok (.aload_n 0, 1) := dk_42 (dk_at dksJ15_putCharSB_0 1 rfl rfl)
theorem dJ15_putCharSB_2 : decode cJ15_putCharSB 2 = .ok (.invokestatic 67, 3) := dk_184 0 67 (dk_at dksJ15_putCharSB_0 2 rfl rfl)
theorem dJ15_putCharSB_5 : decode cJ15_putCharSB 5 = .ok (.aload_n 0, 1) := dk_42 (dk_at dksJ15_putCharSB_0 5 rfl rfl)
theorem dJ15_putCharSB_6 : decode cJ15_putCharSB 6 = .ok (.iload_n 1, 1) := dk_27 (dk_at dksJ15_putCharSB_0 6 rfl rfl)
theorem dJ15_putCharSB_7 : decode cJ15_putCharSB 7 = .ok (.iload_n 2, 1) := dk_28 (dk_at dksJ15_putCharSB_0 7 rfl rfl)
theorem dJ15_putCharSB_8 : decode cJ15_putCharSB 8 = .ok (.invokestatic 111, 3) := dk_184 0 111 (dk_at dksJ15_putCharSB_0 8 rfl rfl)
theorem dJ15_putCharSB_11 : decode cJ15_putCharSB 11 = .ok (.return_, 1) := dk_177 (dk_at dksJ15_putCharSB_0 11 rfl rfl)
theorem q118 : (Jvm.Cond.initialized "java/lang/StringUTF16") ∈ lw_all := lw_g (lw_at lw_m1 22 rfl) rfl
theorem q630 : (Jvm.Cond.static ({ cls := "java/lang/StringUTF16", name := "charAt", desc := "([BI)C" } : Jvm.MethodName)) ∈ lw_all := lw_g (lw_at lw_m3 54 rfl) rfl
theorem q631 : (Jvm.Cond.code ({ cls := "java/lang/StringUTF16", name := "charAt", desc := "([BI)C" } : Jvm.MethodName) prog_39_method_83_code (2 : Nat) (Option.some Jvm.ClassFile.FieldType.char)) ∈ lw_all := lw_g (lw_at lw_m3 55 rfl) rfl
theorem q632 : (Jvm.Cond.methodLink "java/lang/StringUTF16" (67 : Nat) ({ cls := "java/lang/StringUTF16", name := "checkIndex", desc := "(I[B)V" } : Jvm.MethodName)) ∈ lw_all := lw_g (lw_at lw_m3 56 rfl) rfl
theorem q633 : (Jvm.Cond.static ({ cls := "java/lang/StringUTF16", name := "checkIndex", desc := "(I[B)V" } : Jvm.MethodName)) ∈ lw_all := lw_g (lw_at lw_m3 57 rfl) rfl
theorem q634 : (Jvm.Cond.code ({ cls := "java/lang/StringUTF16", name := "checkIndex", desc := "(I[B)V" } : Jvm.MethodName) prog_39_method_91_code (2 : Nat) (Option.none : Option Jvm.ClassFile.FieldType)) ∈ lw_all := lw_g (lw_at lw_m3 58 rfl) rfl
theorem q635 : (Jvm.Cond.methodLink "java/lang/StringUTF16" (48 : Nat) ({ cls := "java/lang/StringUTF16", name := "length", desc := "([B)I" } : Jvm.MethodName)) ∈ lw_all := lw_g (lw_at lw_m3 59 rfl) rfl
theorem q636 : (Jvm.Cond.static ({ cls := "java/lang/StringUTF16", name := "length", desc := "([B)I" } : Jvm.MethodName)) ∈ lw_all := lw_g (lw_at lw_m3 60 rfl) rfl
theorem q637 : (Jvm.Cond.code ({ cls := "java/lang/StringUTF16", name := "length", desc := "([B)I" } : Jvm.MethodName) prog_39_method_6_code (1 : Nat) (Option.some Jvm.ClassFile.FieldType.int)) ∈ lw_all := lw_g (lw_at lw_m3 61 rfl) rfl
theorem q638 : (Jvm.Cond.methodLink "java/lang/StringUTF16" (414 : Nat) ({ cls := "java/lang/String", name := "checkIndex", desc := "(II)V" } : Jvm.MethodName)) ∈ lw_all := lw_g (lw_at lw_m3 62 rfl) rfl
theorem q639 : (Jvm.Cond.methodLink "java/lang/StringUTF16" (71 : Nat) ({ cls := "java/lang/StringUTF16", name := "getChar", desc := "([BI)C" } : Jvm.MethodName)) ∈ lw_all := lw_g (lw_at lw_m3 63 rfl) rfl
theorem q640 : (Jvm.Cond.static ({ cls := "java/lang/StringUTF16", name := "getChar", desc := "([BI)C" } : Jvm.MethodName)) ∈ lw_all := lw_g (lw_at lw_m3 64 rfl) rfl
theorem q641 : (Jvm.Cond.code ({ cls := "java/lang/StringUTF16", name := "getChar", desc := "([BI)C" } : Jvm.MethodName) prog_39_method_5_code (2 : Nat) (Option.some Jvm.ClassFile.FieldType.char)) ∈ lw_all := lw_g (lw_at lw_m3 65 rfl) rfl
theorem q642 : (Jvm.Cond.fieldLink "java/lang/StringUTF16" (44 : Nat) "java/lang/StringUTF16" "$assertionsDisabled" "Z") ∈ lw_all := lw_g (lw_at lw_m3 66 rfl) rfl
theorem q643 : (Jvm.Cond.laysStatic "java/lang/StringUTF16" "$assertionsDisabled" "Z") ∈ lw_tbl := lw_at lw_m3 67 rfl
theorem q644 : (Jvm.Cond.fieldLink "java/lang/StringUTF16" (59 : Nat) "java/lang/StringUTF16" "HI_BYTE_SHIFT" "I") ∈ lw_all := lw_g (lw_at lw_m3 68 rfl) rfl
theorem q645 : (Jvm.Cond.laysStatic "java/lang/StringUTF16" "HI_BYTE_SHIFT" "I") ∈ lw_tbl := lw_at lw_m3 69 rfl
theorem q646 : (Jvm.Cond.fieldLink "java/lang/StringUTF16" (63 : Nat) "java/lang/StringUTF16" "LO_BYTE_SHIFT" "I") ∈ lw_all := lw_g (lw_at lw_m3 70 rfl) rfl
theorem q647 : (Jvm.Cond.laysStatic "java/lang/StringUTF16" "LO_BYTE_SHIFT" "I") ∈ lw_tbl := lw_at lw_m3 71 rfl
theorem q760 : (Jvm.Cond.static ({ cls := "java/lang/StringUTF16", name := "newBytesFor", desc := "(I)[B" } : Jvm.MethodName)) ∈ lw_all := lw_g (lw_at lw_m3 184 rfl) rfl
theorem q761 : (Jvm.Cond.code ({ cls := "java/lang/StringUTF16", name := "newBytesFor", desc := "(I)[B" } : Jvm.MethodName) prog_39_method_2_code (1 : Nat) (Option.some (Jvm.ClassFile.FieldType.array Jvm.ClassFile.FieldType.byte))) ∈ lw_all := lw_g (lw_at lw_m3 185 rfl) rfl
theorem q762 : (Jvm.Cond.methodLink "java/lang/StringUTF16" (11 : Nat) ({ cls := "java/lang/StringUTF16", name := "newBytesLength", desc := "(I)I" } : Jvm.MethodName)) ∈ lw_all := lw_g (lw_at lw_m3 186 rfl) rfl
theorem q763 : (Jvm.Cond.static ({ cls := "java/lang/StringUTF16", name := "newBytesLength", desc := "(I)I" } : Jvm.MethodName)) ∈ lw_all := lw_g (lw_at lw_m3 187 rfl) rfl
theorem q764 : (Jvm.Cond.code ({ cls := "java/lang/StringUTF16", name := "newBytesLength", desc := "(I)I" } : Jvm.MethodName) prog_39_method_3_code (1 : Nat) (Option.some Jvm.ClassFile.FieldType.int)) ∈ lw_all := lw_g (lw_at lw_m3 188 rfl) rfl
theorem q765 : (Jvm.Cond.constant "java/lang/StringUTF16" (20 : Nat) (1073741823 : Int32)) ∈ lw_all := lw_g (lw_at lw_m3 189 rfl) rfl
theorem q818 : (Jvm.Cond.static ({ cls := "java/lang/StringUTF16", name := "putCharsAt", desc := "([BICCCC)I" } : Jvm.MethodName)) ∈ lw_all := lw_g (lw_at lw_m4 2 rfl) rfl
theorem q819 : (Jvm.Cond.code ({ cls := "java/lang/StringUTF16", name := "putCharsAt", desc := "([BICCCC)I" } : Jvm.MethodName) prog_39_method_81_code (7 : Nat) (Option.some Jvm.ClassFile.FieldType.int)) ∈ lw_all := lw_g (lw_at lw_m4 3 rfl) rfl
theorem q820 : (Jvm.Cond.methodLink "java/lang/StringUTF16" (96 : Nat) ({ cls := "java/lang/StringUTF16", name := "checkBoundsBeginEnd", desc := "(II[B)V" } : Jvm.MethodName)) ∈ lw_all := lw_g (lw_at lw_m4 4 rfl) rfl
theorem q821 : (Jvm.Cond.static ({ cls := "java/lang/StringUTF16", name := "checkBoundsBeginEnd", desc := "(II[B)V" } : Jvm.MethodName)) ∈ lw_all := lw_g (lw_at lw_m4 5 rfl) rfl
theorem q822 : (Jvm.Cond.code ({ cls := "java/lang/StringUTF16", name := "checkBoundsBeginEnd", desc := "(II[B)V" } : Jvm.MethodName) prog_39_method_93_code (3 : Nat) (Option.none : Option Jvm.ClassFile.FieldType)) ∈ lw_all := lw_g (lw_at lw_m4 6 rfl) rfl
theorem q823 : (Jvm.Cond.methodLink "java/lang/StringUTF16" (241 : Nat) ({ cls := "java/lang/String", name := "checkBoundsBeginEnd", desc := "(III)V" } : Jvm.MethodName)) ∈ lw_all := lw_g (lw_at lw_m4 7 rfl) rfl
theorem q829 : (Jvm.Cond.methodLink "java/lang/StringUTF16" (111 : Nat) ({ cls := "java/lang/StringUTF16", name := "putChar", desc := "([BII)V" } : Jvm.MethodName)) ∈ lw_all := lw_g (lw_at lw_m4 13 rfl) rfl
theorem q830 : (Jvm.Cond.static ({ cls := "java/lang/StringUTF16", name := "putChar", desc := "([BII)V" } : Jvm.MethodName)) ∈ lw_all := lw_g (lw_at lw_m4 14 rfl) rfl
theorem q831 : (Jvm.Cond.code ({ cls := "java/lang/StringUTF16", name := "putChar", desc := "([BII)V" } : Jvm.MethodName) prog_39_method_4_code (3 : Nat) (Option.none : Option Jvm.ClassFile.FieldType)) ∈ lw_all := lw_g (lw_at lw_m4 15 rfl) rfl
theorem q850 : (Jvm.Cond.static ({ cls := "java/lang/StringUTF16", name := "inflate", desc := "([BI[BII)V" } : Jvm.MethodName)) ∈ lw_all := lw_g (lw_at lw_m4 34 rfl) rfl
theorem q851 : (Jvm.Cond.code ({ cls := "java/lang/StringUTF16", name := "inflate", desc := "([BI[BII)V" } : Jvm.MethodName) prog_39_method_86_code (6 : Nat) (Option.none : Option Jvm.ClassFile.FieldType)) ∈ lw_all := lw_g (lw_at lw_m4 35 rfl) rfl
theorem q852 : (Jvm.Cond.methodLink "java/lang/StringUTF16" (173 : Nat) ({ cls := "java/lang/StringUTF16", name := "checkBoundsOffCount", desc := "(II[B)V" } : Jvm.MethodName)) ∈ lw_all := lw_g (lw_at lw_m4 36 rfl) rfl
theorem q853 : (Jvm.Cond.static ({ cls := "java/lang/StringUTF16", name := "checkBoundsOffCount", desc := "(II[B)V" } : Jvm.MethodName)) ∈ lw_all := lw_g (lw_at lw_m4 37 rfl) rfl
theorem q854 : (Jvm.Cond.code ({ cls := "java/lang/StringUTF16", name := "checkBoundsOffCount", desc := "(II[B)V" } : Jvm.MethodName) prog_39_method_94_code (3 : Nat) (Option.none : Option Jvm.ClassFile.FieldType)) ∈ lw_all := lw_g (lw_at lw_m4 38 rfl) rfl
theorem q855 : (Jvm.Cond.methodLink "java/lang/StringUTF16" (419 : Nat) ({ cls := "java/lang/String", name := "checkBoundsOffCount", desc := "(III)I" } : Jvm.MethodName)) ∈ lw_all := lw_g (lw_at lw_m4 39 rfl) rfl
theorem q885 : (Jvm.Cond.static ({ cls := "java/lang/StringUTF16", name := "getChars", desc := "(III[B)I" } : Jvm.MethodName)) ∈ lw_all := lw_g (lw_at lw_m4 69 rfl) rfl
theorem q886 : (Jvm.Cond.code ({ cls := "java/lang/StringUTF16", name := "getChars", desc := "(III[B)I" } : Jvm.MethodName) prog_39_method_77_code (5 : Nat) (Option.some Jvm.ClassFile.FieldType.int)) ∈ lw_all := lw_g (lw_at lw_m4 70 rfl) rfl
theorem q887 : (Jvm.Cond.methodLink "java/lang/StringUTF16" (393 : Nat) ({ cls := "java/lang/StringUTF16", name := "getChars", desc := "(II[B)I" } : Jvm.MethodName)) ∈ lw_all := lw_g (lw_at lw_m4 71 rfl) rfl
theorem q888 : (Jvm.Cond.static ({ cls := "java/lang/StringUTF16", name := "getChars", desc := "(II[B)I" } : Jvm.MethodName)) ∈ lw_all := lw_g (lw_at lw_m4 72 rfl) rfl
theorem q889 : (Jvm.Cond.code ({ cls := "java/lang/StringUTF16", name := "getChars", desc := "(II[B)I" } : Jvm.MethodName) prog_39_method_89_code (7 : Nat) (Option.some Jvm.ClassFile.FieldType.int)) ∈ lw_all := lw_g (lw_at lw_m4 73 rfl) rfl
theorem q890 : (Jvm.Cond.fieldLink "java/lang/StringUTF16" (403 : Nat) "java/lang/Integer" "DigitOnes" "[B") ∈ lw_all := lw_g (lw_at lw_m4 74 rfl) rfl
theorem q891 : (Jvm.Cond.fieldLink "java/lang/StringUTF16" (407 : Nat) "java/lang/Integer" "DigitTens" "[B") ∈ lw_all := lw_g (lw_at lw_m4 75 rfl) rfl
theorem q959 : (Jvm.Cond.static ({ cls := "java/lang/StringUTF16", name := "compress", desc := "([BII)[B" } : Jvm.MethodName)) ∈ lw_all := lw_g (lw_at lw_m4 143 rfl) rfl
theorem q960 : (Jvm.Cond.code ({ cls := "java/lang/StringUTF16", name := "compress", desc := "([BII)[B" } : Jvm.MethodName) prog_39_method_17_code (6 : Nat) (Option.some (Jvm.ClassFile.FieldType.array Jvm.ClassFile.FieldType.byte))) ∈ lw_all := lw_g (lw_at lw_m4 144 rfl) rfl
theorem q961 : (Jvm.Cond.methodLink "java/lang/StringUTF16" (123 : Nat) ({ cls := "java/lang/StringUTF16", name := "compress", desc := "([BI[BII)I" } : Jvm.MethodName)) ∈ lw_all := lw_g (lw_at lw_m4 145 rfl) rfl
theorem q962 : (Jvm.Cond.static ({ cls := "java/lang/StringUTF16", name := "compress", desc := "([BI[BII)I" } : Jvm.MethodName)) ∈ lw_all := lw_g (lw_at lw_m4 146 rfl) rfl
theorem q963 : (Jvm.Cond.code ({ cls := "java/lang/StringUTF16", name := "compress", desc := "([BI[BII)I" } : Jvm.MethodName) prog_39_method_22_code (7 : Nat) (Option.some Jvm.ClassFile.FieldType.int)) ∈ lw_all := lw_g (lw_at lw_m4 147 rfl) rfl
theorem q964 : (Jvm.Cond.methodLink "java/lang/StringUTF16" (126 : Nat) ({ cls := "java/util/Arrays", name := "copyOfRange", desc := "([BII)[B" } : Jvm.MethodName)) ∈ lw_all := lw_g (lw_at lw_m4 148 rfl) rfl
theorem q966 : (Jvm.Cond.static ({ cls := "java/lang/StringUTF16", name := "coderFromArrayLen", desc := "([BI)B" } : Jvm.MethodName)) ∈ lw_all := lw_g (lw_at lw_m4 150 rfl) rfl
theorem q967 : (Jvm.Cond.code ({ cls := "java/lang/StringUTF16", name := "coderFromArrayLen", desc := "([BI)B" } : Jvm.MethodName) prog_39_method_15_code (2 : Nat) (Option.some Jvm.ClassFile.FieldType.byte)) ∈ lw_all := lw_g (lw_at lw_m4 151 rfl) rfl
theorem q1107 : (Jvm.Cond.static ({ cls := "java/lang/StringUTF16", name := "compress", desc := "([CII)[B" } : Jvm.MethodName)) ∈ lw_all := lw_g (lw_at lw_m5 51 rfl) rfl
theorem q1108 : (Jvm.Cond.code ({ cls := "java/lang/StringUTF16", name := "compress", desc := "([CII)[B" } : Jvm.MethodName) prog_39_method_16_code (6 : Nat) (Option.some (Jvm.ClassFile.FieldType.array Jvm.ClassFile.FieldType.byte))) ∈ lw_all := lw_g (lw_at lw_m5 52 rfl) rfl
theorem q1109 : (Jvm.Cond.methodLink "java/lang/StringUTF16" (115 : Nat) ({ cls := "java/lang/StringUTF16", name := "compress", desc := "([CI[BII)I" } : Jvm.MethodName)) ∈ lw_all := lw_g (lw_at lw_m5 53 rfl) rfl
theorem q1110 : (Jvm.Cond.static ({ cls := "java/lang/StringUTF16", name := "compress", desc := "([CI[BII)I" } : Jvm.MethodName)) ∈ lw_all := lw_g (lw_at lw_m5 54 rfl) rfl
theorem q1111 : (Jvm.Cond.code ({ cls := "java/lang/StringUTF16", name := "compress", desc := "([CI[BII)I" } : Jvm.MethodName) prog_39_method_21_code (7 : Nat) (Option.some Jvm.ClassFile.FieldType.int)) ∈ lw_all := lw_g (lw_at lw_m5 55 rfl) rfl
theorem q1112 : (Jvm.Cond.methodLink "java/lang/StringUTF16" (119 : Nat) ({ cls := "java/lang/StringUTF16", name := "toBytes", desc := "([CII)[B" } : Jvm.MethodName)) ∈ lw_all := lw_g (lw_at lw_m5 56 rfl) rfl
theorem q1113 : (Jvm.Cond.static ({ cls := "java/lang/StringUTF16", name := "toBytes", desc := "([CII)[B" } : Jvm.MethodName)) ∈ lw_all := lw_g (lw_at lw_m5 57 rfl) rfl
theorem q1114 : (Jvm.Cond.code ({ cls := "java/lang/StringUTF16", name := "toBytes", desc := "([CII)[B" } : Jvm.MethodName) prog_39_method_14_code (5 : Nat) (Option.some (Jvm.ClassFile.FieldType.array Jvm.ClassFile.FieldType.byte))) ∈ lw_all := lw_g (lw_at lw_m5 58 rfl) rfl
theorem q1115 : (Jvm.Cond.methodLink "java/lang/StringUTF16" (107 : Nat) ({ cls := "java/lang/StringUTF16", name := "newBytesFor", desc := "(I)[B" } : Jvm.MethodName)) ∈ lw_all := lw_g (lw_at lw_m5 59 rfl) rfl
theorem q1356 : (Jvm.Cond.static ({ cls := "java/lang/StringUTF16", name := "newString", desc := "([BII)Ljava/lang/String;" } : Jvm.MethodName)) ∈ lw_all := lw_g (lw_at lw_m6 60 rfl) rfl
theorem q1357 : (Jvm.Cond.code ({ cls := "java/lang/StringUTF16", name := "newString", desc := "([BII)Ljava/lang/String;" } : Jvm.MethodName) prog_39_method_69_code (5 : Nat) (Option.some (Jvm.ClassFile.FieldType.object "java/lang/String"))) ∈ lw_all := lw_g (lw_at lw_m6 61 rfl) rfl
theorem q1358 : (Jvm.Cond.stringRef "java/lang/StringUTF16" (295 : Nat) "") ∈ lw_tbl := lw_at lw_m6 62 rfl
theorem q1359 : (Jvm.Cond.fieldLink "java/lang/StringUTF16" (251 : Nat) "java/lang/String" "COMPACT_STRINGS" "Z") ∈ lw_all := lw_g (lw_at lw_m6 63 rfl) rfl
theorem q1360 : (Jvm.Cond.methodLink "java/lang/StringUTF16" (257 : Nat) ({ cls := "java/lang/StringUTF16", name := "compress", desc := "([BII)[B" } : Jvm.MethodName)) ∈ lw_all := lw_g (lw_at lw_m6 64 rfl) rfl
theorem q1361 : (Jvm.Cond.methodLink "java/lang/StringUTF16" (259 : Nat) ({ cls := "java/lang/StringUTF16", name := "coderFromArrayLen", desc := "([BI)B" } : Jvm.MethodName)) ∈ lw_all := lw_g (lw_at lw_m6 65 rfl) rfl
theorem q1362 : (Jvm.Cond.classLink "java/lang/StringUTF16" (3 : Nat) "java/lang/String") ∈ lw_all := lw_g (lw_at lw_m6 66 rfl) rfl
theorem q1363 : (Jvm.Cond.methodLink "java/lang/StringUTF16" (263 : Nat) ({ cls := "java/lang/String", name := "<init>", desc := "([BB)V" } : Jvm.MethodName)) ∈ lw_all := lw_g (lw_at lw_m6 67 rfl) rfl
theorem q1567 : (Jvm.Cond.static ({ cls := "java/lang/StringUTF16", name := "putCharSB", desc := "([BII)V" } : Jvm.MethodName)) ∈ lw_all := lw_g (lw_at lw_m7 31 rfl) rfl
theorem q1568 : (Jvm.Cond.code ({ cls := "java/lang/StringUTF16", name := "putCharSB", desc := "([BII)V" } : Jvm.MethodName) prog_39_method_71_code (3 : Nat) (Option.none : Option Jvm.ClassFile.FieldType)) ∈ lw_all := lw_g (lw_at lw_m7 32 rfl) rfl
/-! java/lang/StringLatin1 -/
set_option maxRecDepth 100000
def RJ16 : String := "java/lang/StringLatin1"
abbrev cJ16_equals : ByteArray := prog_38_method_13_code
def yJ16_equals : MethodName := ⟨RJ16, "equals", "([B[B)Z"⟩
def dkwJ16_equals_1 : List UInt8 := [3, 172, 132, 2, 1, 167, 255, 236, 4, 172, 3, 172]
abbrev dktJ16_equals_1 : List UInt8 := dkwJ16_equals_1 ++ []
def dkwJ16_equals_0 : List UInt8 := [42, 190, 43, 190, 160, 0, 30, 3, 61, 28, 42, 190, 162, 0, 20, 42, 28, 51, 43, 28, 51, 159, 0, 5]
abbrev dktJ16_equals_0 : List UInt8 := dkwJ16_equals_0 ++ dktJ16_equals_1
theorem dksJ16_equals_0 : cJ16_equals.data.toList.drop 0 = dktJ16_equals_0 := by decide +kernel
theorem dksJ16_equals_1 : cJ16_equals.data.toList.drop 24 = dktJ16_equals_1 := dk_seg dksJ16_equals_0 24 rfl rfl
theorem dJ16_equals_0 : decode cJ16_equals 0 = .ok (.aload_n 0, 1) := dk_42 (dk_at dksJ16_equals_0 0 rfl rfl)
theorem dJ16_equals_1 : decode cJ16_equals 1 = .ok (.arraylength, 1) := dk_190 (dk_at dksJ16_equals_0 1 rfl rfl)
theorem dJ16_equals_2 : decode cJ16_equals 2 = .ok (.aload_n 1, 1) := dk_43 (dk_at dksJ16_equals_0 2 rfl rfl)
theorem dJ16_equals_3 : decode cJ16_equals 3 = .ok (.arraylength, 1) := dk_190 (dk_at dksJ16_equals_0 3 rfl rfl)
theorem dJ16_equals_4 : decode cJ16_equals 4 = .ok (.if_icmp .ne 30, 3) := dk_160 0 30 (dk_at dksJ16_equals_0 4 rfl rfl)
theorem dJ16_equals_7 : decode cJ16_equals 7 = .ok (.iconst 0, 1) := dk_3 (dk_at dksJ16_equals_0 7 rfl rfl)
theorem dJ16_equals_8 : decode cJ16_equals 8 = .ok (.istore_n 2, 1) := dk_61 (dk_at dksJ16_equals_0 8 rfl rfl)
theorem dJ16_equals_9 : decode cJ16_equals 9 = .ok (.iload_n 2, 1) := dk_28 (dk_at dksJ16_equals_0 9 rfl rfl)
theorem dJ16_equals_10 : decode cJ16_equals 10 = .ok (.aload_n 0, 1) := dk_42 (dk_at dksJ16_equals_0 10 rfl rfl)
theorem dJ16_equals_11 : decode cJ16_equals 11 = .ok (.arraylength, 1) := dk_190 (dk_at dksJ16_equals_0 11 rfl rfl)
theorem dJ16_equals_12 : decode cJ16_equals 12 = .ok (.if_icmp .ge 20, 3) := dk_162 0 20 (dk_at dksJ16_equals_0 12 rfl rfl)
theorem dJ16_equals_15 : decode cJ16_equals 15 = .ok (.aload_n 0, 1) := dk_42 (dk_at dksJ16_equals_0 15 rfl rfl)
theorem dJ16_equals_16 : decode cJ16_equals 16 = .ok (.iload_n 2, 1) := dk_28 (dk_at dksJ16_equals_0 16 rfl rfl)
theorem dJ16_equals_17 : decode cJ16_equals 17 = .ok (.baload, 1) := dk_51 (dk_at dksJ16_equals_0 17 rfl rfl)
theorem dJ16_equals_18 : decode cJ16_equals 18 = .ok (.aload_n 1, 1) := dk_43 (dk_at dksJ16_equals_0 18 rfl rfl)
theorem dJ16_equals_19 : decode cJ16_equals 19 = .ok (.iload_n 2, 1) := dk_28 (dk_at dksJ16_equals_0 19 rfl rfl)
theorem dJ16_equals_20 : decode cJ16_equals 20 = .ok (.baload, 1) := dk_51 (dk_at dksJ16_equals_0 20 rfl rfl)
theorem dJ16_equals_21 : decode cJ16_equals 21 = .ok (.if_icmp .eq 5, 3) := dk_159 0 5 (dk_at dksJ16_equals_0 21 rfl rfl)
theorem dJ16_equals_24 : decode cJ16_equals 24 = .ok (.iconst 0, 1) := dk_3 (dk_at dksJ16_equals_1 0 rfl rfl)
theorem dJ16_equals_25 : decode cJ16_equals 25 = .ok (.ireturn, 1) := dk_172 (dk_at dksJ16_equals_1 1 rfl rfl)
theorem dJ16_equals_26 : decode cJ16_equals 26 = .ok (.iinc 2 1, 3) := dk_132 2 1 (dk_at dksJ16_equals_1 2 rfl rfl)
theorem dJ16_equals_29 : decode cJ16_equals 29 = .ok (.goto (-20), 3) := dk_167 255 236 (dk_at dksJ16_equals_1 5 rfl rfl)
theorem dJ16_equals_32 : decode cJ16_equals 32 = .ok (.iconst 1, 1) := dk_4 (dk_at dksJ16_equals_1 8 rfl rfl)
theorem dJ16_equals_33 : decode cJ16_equals 33 = .ok (.ireturn, 1) := dk_172 (dk_at dksJ16_equals_1 9 rfl rfl)
theorem dJ16_equals_34 : decode cJ16_equals 34 = .ok (.iconst 0, 1) := dk_3 (dk_at dksJ16_equals_1 10 rfl rfl)
theorem dJ16_equals_35 : decode cJ16_equals 35 = .ok (.ireturn, 1) := dk_172 (dk_at dksJ16_equals_1 11 rfl rfl)
abbrev cJ16_charAt : ByteArray := prog_38_method_2_code
def yJ16_charAt : MethodName := ⟨RJ16, "charAt", "([BI)C"⟩
def dkwJ16_charAt_0 : List UInt8 := [27, 42, 190, 184, 0, 9, 42, 27, 51, 17, 0, 255, 126, 146, 172]
abbrev dktJ16_charAt_0 : List UInt8 := dkwJ16_charAt_0 ++ []
theorem dksJ16_charAt_0 : cJ16_charAt.data.toList.drop 0 = dktJ16_charAt_0 := by decide +kernel
theorem dJ16_charAt_0 : decode cJ16_charAt 0 = .ok (.iload_n 1, 1) := dk_27 (dk_at dksJ16_charAt_0 0 rfl rfl)
theorem dJ16_charAt_1 : decode cJ16_charAt 1 = .ok (.aload_n 0, 1) := dk_42 (dk_at dksJ16_charAt_0 1 rfl rfl)
theorem dJ16_charAt_2 : decode cJ16_charAt 2 = .ok (.arraylength, 1) := dk_190 (dk_at dksJ16_charAt_0 2 rfl rfl)
theorem dJ16_charAt_3 : decode cJ16_charAt 3 = .ok (.invokestatic 9, 3) := dk_184 0 9 (dk_at dksJ16_charAt_0 3 rfl rfl)
theorem dJ16_charAt_6 : decode cJ16_charAt 6 = .ok (.aload_n 0, 1) := dk_42 (dk_at dksJ16_charAt_0 6 rfl rfl)
theorem dJ16_charAt_7 : decode cJ16_charAt 7 = .ok (.iload_n 1, 1) := dk_27 (dk_at dksJ16_charAt_0 7 rfl rfl)
theorem dJ16_charAt_8 : decode cJ16_charAt 8 = .ok (.baload, 1) := dk_51 (dk_at dksJ16_charAt_0 8 rfl rfl)
theorem dJ16_charAt_9 : decode cJ16_charAt 9 = .ok (.sipush 255, 3) := dk_17 0 255 (dk_at dksJ16_charAt_0 9 rfl rfl)
theorem dJ16_charAt_12 : decode cJ16_charAt 12 = .ok (.iand, 1) := dk_126 (dk_at dksJ16_charAt_0 12 rfl rfl)
theorem dJ16_charAt_13 : decode cJ16_charAt 13 = .ok (.i2c, 1) := dk_146 (dk_at dksJ16_charAt_0 13 rfl rfl)
theorem dJ16_charAt_14 : decode cJ16_charAt 14 = .ok (.ireturn, 1) := dk_172 (dk_at dksJ16_charAt_0 14 rfl rfl)
abbrev cJ16_inflate : ByteArray := prog_38_method_50_code
def yJ16_inflate : MethodName := ⟨RJ16, "inflate", "([BI[BII)V"⟩
def dkwJ16_inflate_0 : List UInt8 := [42, 27, 44, 29, 21, 4, 184, 0, 240, 177]
abbrev dktJ16_inflate_0 : List UInt8 := dkwJ16_inflate_0 ++ []
theorem dksJ16_inflate_0 : cJ16_inflate.data.toList.drop 0 = dktJ16_inflate_0 := by decide +kernel
theorem dJ16_inflate_0 : decode cJ16_inflate 0 = .ok (.aload_n 0, 1) := dk_42 (dk_at dksJ16_inflate_0 0 rfl rfl)
theorem dJ16_inflate_1 : decode cJ16_inflate 1 = .ok (.iload_n 1, 1) := dk_27 (dk_at dksJ16_inflate_0 1 rfl rfl)
theorem dJ16_inflate_2 : decode cJ16_inflate 2 = .ok (.aload_n 2, 1) := dk_44 (dk_at dksJ16_inflate_0 2 rfl rfl)
theorem dJ16_inflate_3 : decode cJ16_inflate 3 = .ok (.iload_n 3, 1) := dk_29 (dk_at dksJ16_inflate_0 3 rfl rfl)
theorem dJ16_inflate_4 : decode cJ16_inflate 4 = .ok (.iload 4, 2) := dk_21 4 (dk_at dksJ16_inflate_0 4 rfl rfl)
theorem dJ16_inflate_6 : decode cJ16_inflate 6 = .ok (.invokestatic 240, 3) := dk_184 0 240 (dk_at dksJ16_inflate_0 6 rfl rfl)
theorem dJ16_inflate_9 : decode cJ16_inflate 9 = .ok (.return_, 1) := dk_177 (dk_at dksJ16_inflate_0 9 rfl rfl)
abbrev cJ16_newString : ByteArray := prog_38_method_47_code
def yJ16_newString : MethodName := ⟨RJ16, "newString", "([BII)Ljava/lang/String;"⟩
def dkwJ16_newString_0 : List UInt8 := [28, 154, 0, 6, 18, 151, 176, 187, 0, 1, 89, 42, 27, 27, 28, 96, 184, 0, 232, 3, 183, 0, 112, 176]
abbrev dktJ16_newString_0 : List UInt8 := dkwJ16_newString_0 ++ []
theorem dksJ16_newString_0 : cJ16_newString.data.toList.drop 0 = dktJ16_newString_0 := by decide +kernel
theorem dJ16_newString_0 : decode cJ16_newString 0 = .ok (.iload_n 2, 1) := dk_28 (dk_at dksJ16_newString_0 0 rfl rfl)
theorem dJ16_newString_1 : decode cJ16_newString 1 = .ok (.ifCond .ne 6, 3) := dk_154 0 6 (dk_at dksJ16_newString_0 1 rfl rfl)
theorem dJ16_newString_4 : decode cJ16_newString 4 = .ok (.ldc 151, 2) := dk_18 151 (dk_at dksJ16_newString_0 4 rfl rfl)
theorem dJ16_newString_6 : decode cJ16_newString 6 = .ok (.areturn, 1) := dk_176 (dk_at dksJ16_newString_0 6 rfl rfl)
theorem dJ16_newString_7 : decode cJ16_newString 7 = .ok (.new 1, 3) := dk_187 0 1 (dk_at dksJ16_newString_0 7 rfl rfl)
theorem dJ16_newString_10 : decode cJ16_newString 10 = .ok (.dup, 1) := dk_89 (dk_at dksJ16_newString_0 10 rfl rfl)
theorem dJ16_newString_11 : decode cJ16_newString 11 = .ok (.aload_n 0, 1) := dk_42 (dk_at dksJ16_newString_0 11 rfl rfl)
theorem dJ16_newString_12 : decode cJ16_newString 12 = .ok (.iload_n 1, 1) := dk_27 (dk_at dksJ16_newString_0 12 rfl rfl)
theorem dJ16_newString_13 : decode cJ16_newString 13 = .ok (.iload_n 1, 1) := dk_27 (dk_at dksJ16_newString_0 13 rfl rfl)
theorem dJ16_newString_14 : decode cJ16_newString 14 = .ok (.iload_n 2, 1) := dk_28 (dk_at dksJ16_newString_0 14 rfl rfl)
theorem dJ16_newString_15 : decode cJ16_newString 15 = .ok (.iadd, 1) := dk_96 (dk_at dksJ16_newString_0 15 rfl rfl)
theorem dJ16_newString_16 : decode cJ16_newString 16 = .ok (.invokestatic 232, 3) := dk_184 0 232 (dk_at dksJ16_newString_0 16 rfl rfl)
theorem dJ16_newString_19 : decode cJ16_newString 19 = .ok (.iconst 0, 1) := dk_3 (dk_at dksJ16_newString_0 19 rfl rfl)
theorem dJ16_newString_20 : decode cJ16_newString 20 = .ok (.invokespecial 112, 3) := dk_183 0 112 (dk_at dksJ16_newString_0 20 rfl rfl)
theorem dJ16_newString_23 : decode cJ16_newString 23 = .ok (.areturn, 1) := dk_176 (dk_at dksJ16_newString_0 23 rfl rfl)
abbrev cJ16_canEncode : ByteArray := prog_38_method_3_code
def yJ16_canEncode : MethodName := ⟨RJ16, "canEncode", "(C)Z"⟩
def dkwJ16_canEncode_0 : List UInt8 := [26, 17, 0, 255, 163, 0, 7, 4, 167, 0, 4, 3, 172]
abbrev dktJ16_canEncode_0 : List UInt8 := dkwJ16_canEncode_0 ++ []
theorem dksJ16_canEncode_0 : cJ16_canEncode.data.toList.drop 0 = dktJ16_canEncode_0 := by decide +kernel
theorem dJ16_canEncode_0 : decode cJ16_canEncode 0 = .ok (.iload_n 0, 1) := dk_26 (dk_at dksJ16_canEncode_0 0 rfl rfl)
theorem dJ16_canEncode_1 : decode cJ16_canEncode 1 = .ok (.sipush 255, 3) := dk_17 0 255 (dk_at dksJ16_canEncode_0 1 rfl rfl)
theorem dJ16_canEncode_4 : decode cJ16_canEncode 4 = .ok (.if_icmp .gt 7, 3) := dk_163 0 7 (dk_at dksJ16_canEncode_0 4 rfl rfl)
theorem dJ16_canEncode_7 : decode cJ16_canEncode 7 = .ok (.iconst 1, 1) := dk_4 (dk_at dksJ16_canEncode_0 7 rfl rfl)
theorem dJ16_canEncode_8 : decode cJ16_canEncode 8 = .ok (.goto 4, 3) := dk_167 0 4 (dk_at dksJ16_canEncode_0 8 rfl rfl)
theorem dJ16_canEncode_11 : decode cJ16_canEncode 11 = .ok (.iconst 0, 1) := dk_3 (dk_at dksJ16_canEncode_0 11 rfl rfl)
theorem dJ16_canEncode_12 : decode cJ16_canEncode 12 = .ok (.ireturn, 1) := dk_172 (dk_at dksJ16_canEncode_0 12 rfl rfl)
theorem q119 : (Jvm.Cond.initialized "java/lang/StringLatin1") ∈ lw_all := lw_g (lw_at lw_m1 23 rfl) rfl
theorem q602 : (Jvm.Cond.static ({ cls := "java/lang/StringLatin1", name := "equals", desc := "([B[B)Z" } : Jvm.MethodName)) ∈ lw_all := lw_g (lw_at lw_m3 26 rfl) rfl
theorem q603 : (Jvm.Cond.code ({ cls := "java/lang/StringLatin1", name := "equals", desc := "([B[B)Z" } : Jvm.MethodName) prog_38_method_13_code (3 : Nat) (Option.some Jvm.ClassFile.FieldType.boolean)) ∈ lw_all := lw_g (lw_at lw_m3 27 rfl) rfl
theorem q621 : (Jvm.Cond.static ({ cls := "java/lang/StringLatin1", name := "charAt", desc := "([BI)C" } : Jvm.MethodName)) ∈ lw_all := lw_g (lw_at lw_m3 45 rfl) rfl
theorem q622 : (Jvm.Cond.code ({ cls := "java/lang/StringLatin1", name := "charAt", desc := "([BI)C" } : Jvm.MethodName) prog_38_method_2_code (2 : Nat) (Option.some Jvm.ClassFile.FieldType.char)) ∈ lw_all := lw_g (lw_at lw_m3 46 rfl) rfl
theorem q623 : (Jvm.Cond.methodLink "java/lang/StringLatin1" (9 : Nat) ({ cls := "java/lang/String", name := "checkIndex", desc := "(II)V" } : Jvm.MethodName)) ∈ lw_all := lw_g (lw_at lw_m3 47 rfl) rfl
theorem q847 : (Jvm.Cond.static ({ cls := "java/lang/StringLatin1", name := "inflate", desc := "([BI[BII)V" } : Jvm.MethodName)) ∈ lw_all := lw_g (lw_at lw_m4 31 rfl) rfl
theorem q848 : (Jvm.Cond.code ({ cls := "java/lang/StringLatin1", name := "inflate", desc := "([BI[BII)V" } : Jvm.MethodName) prog_38_method_50_code (5 : Nat) (Option.none : Option Jvm.ClassFile.FieldType)) ∈ lw_all := lw_g (lw_at lw_m4 32 rfl) rfl
theorem q849 : (Jvm.Cond.methodLink "java/lang/StringLatin1" (240 : Nat) ({ cls := "java/lang/StringUTF16", name := "inflate", desc := "([BI[BII)V" } : Jvm.MethodName)) ∈ lw_all := lw_g (lw_at lw_m4 33 rfl) rfl
theorem q1347 : (Jvm.Cond.static ({ cls := "java/lang/StringLatin1", name := "newString", desc := "([BII)Ljava/lang/String;" } : Jvm.MethodName)) ∈ lw_all := lw_g (lw_at lw_m6 51 rfl) rfl
theorem q1348 : (Jvm.Cond.code ({ cls := "java/lang/StringLatin1", name := "newString", desc := "([BII)Ljava/lang/String;" } : Jvm.MethodName) prog_38_method_47_code (3 : Nat) (Option.some (Jvm.ClassFile.FieldType.object "java/lang/String"))) ∈ lw_all := lw_g (lw_at lw_m6 52 rfl) rfl
theorem q1349 : (Jvm.Cond.stringRef "java/lang/StringLatin1" (151 : Nat) "") ∈ lw_tbl := lw_at lw_m6 53 rfl
theorem q1350 : (Jvm.Cond.classLink "java/lang/StringLatin1" (1 : Nat) "java/lang/String") ∈ lw_all := lw_g (lw_at lw_m6 54 rfl) rfl
theorem q1351 : (Jvm.Cond.methodLink "java/lang/StringLatin1" (232 : Nat) ({ cls := "java/util/Arrays", name := "copyOfRange", desc := "([BII)[B" } : Jvm.MethodName)) ∈ lw_all := lw_g (lw_at lw_m6 55 rfl) rfl
theorem q1352 : (Jvm.Cond.methodLink "java/lang/StringLatin1" (112 : Nat) ({ cls := "java/lang/String", name := "<init>", desc := "([BB)V" } : Jvm.MethodName)) ∈ lw_all := lw_g (lw_at lw_m6 56 rfl) rfl
theorem q1564 : (Jvm.Cond.static ({ cls := "java/lang/StringLatin1", name := "canEncode", desc := "(C)Z" } : Jvm.MethodName)) ∈ lw_all := lw_g (lw_at lw_m7 28 rfl) rfl
theorem q1565 : (Jvm.Cond.code ({ cls := "java/lang/StringLatin1", name := "canEncode", desc := "(C)Z" } : Jvm.MethodName) prog_38_method_3_code (1 : Nat) (Option.some Jvm.ClassFile.FieldType.boolean)) ∈ lw_all := lw_g (lw_at lw_m7 29 rfl) rfl
/-! java/lang/Number -/
set_option maxRecDepth 100000
def RJ17 : String := "java/lang/Number"
abbrev cJ17_init : ByteArray := prog_34_method_1_code
def yJ17_init : MethodName := ⟨RJ17, "<init>", "()V"⟩
theorem dJ17_init_0 : decode cJ17_init 0 = .ok (.aload_n 0, 1) := by decide +kernel
theorem dJ17_init_1 : decode cJ17_init 1 = .ok (.invokespecial 1, 3) := by decide +kernel
theorem dJ17_init_4 : decode cJ17_init 4 = .ok (.return_, 1) := by decide +kernel
theorem q120 : (Jvm.Cond.initialized "java/lang/Number") ∈ lw_all := lw_g (lw_at lw_m1 24 rfl) rfl
theorem q1189 : (Jvm.Cond.instanceMethod ({ cls := "java/lang/Number", name := "<init>", desc := "()V" } : Jvm.MethodName)) ∈ lw_all := lw_g (lw_at lw_m5 133 rfl) rfl
theorem q1190 : (Jvm.Cond.code ({ cls := "java/lang/Number", name := "<init>", desc := "()V" } : Jvm.MethodName) prog_34_method_1_code (1 : Nat) (Option.none : Option Jvm.ClassFile.FieldType)) ∈ lw_all := lw_g (lw_at lw_m5 134 rfl) rfl
theorem q1191 : (Jvm.Cond.methodLink "java/lang/Number" (1 : Nat) ({ cls := "java/lang/Object", name := "<init>", desc := "()V" } : Jvm.MethodName)) ∈ lw_all := lw_g (lw_at lw_m5 135 rfl) rfl
/-! java/lang/Integer -/
set_option maxRecDepth 100000
def RJ18 : String := "java/lang/Integer"
def TJ18 : u_T := fun k => match k with
  | _ => ("java/lang/Integer", "value", "I", true)
def tyJ18 : Nat → FieldType := fun k => match k with
  | _ => .int
abbrev wsJ180 : List Cond := u_ws RJ18 TJ18 1
theorem nmJ18 : ∀ a, a < 1 → ∀ b, b < 1 → a ≠ b → (TJ18 a).2.1 ≠ (TJ18 b).2.1 := by decide +kernel
theorem tyJ18_ok : ∀ k, k < 1 → parseFieldDescriptor (TJ18 k).2.2.1 = some (tyJ18 k) := by decide +kernel
abbrev cJ18_intValue : ByteArray := prog_30_method_27_code
def yJ18_intValue : MethodName := ⟨RJ18, "intValue", "()I"⟩
theorem dJ18_intValue_0 : decode cJ18_intValue 0 = .ok (.aload_n 0, 1) := by decide +kernel
theorem dJ18_intValue_1 : decode cJ18_intValue 1 = .ok (.getfield 205, 3) := by decide +kernel
theorem dJ18_intValue_4 : decode cJ18_intValue 4 = .ok (.ireturn, 1) := by decide +kernel
abbrev cJ18_stringSize : ByteArray := prog_30_method_13_code
def yJ18_stringSize : MethodName := ⟨RJ18, "stringSize", "(I)I"⟩
def dkwJ18_stringSize_1 : List UInt8 := [164, 0, 7, 29, 27, 96, 172, 16, 10, 28, 104, 61, 132, 3, 1, 167, 255, 233, 16, 10, 27, 96, 172]
abbrev dktJ18_stringSize_1 : List UInt8 := dkwJ18_stringSize_1 ++ []
def dkwJ18_stringSize_0 : List UInt8 := [4, 60, 26, 155, 0, 8, 3, 60, 26, 116, 59, 16, 246, 61, 4, 62, 29, 16, 10, 162, 0, 23, 26, 28]
abbrev dktJ18_stringSize_0 : List UInt8 := dkwJ18_stringSize_0 ++ dktJ18_stringSize_1
theorem dksJ18_stringSize_0 : cJ18_stringSize.data.toList.drop 0 = dktJ18_stringSize_0 := by decide +kernel
theorem dksJ18_stringSize_1 : cJ18_stringSize.data.toList.drop 24 = dktJ18_stringSize_1 := dk_seg dksJ18_stringSize_0 24 rfl rfl
theorem dJ18_stringSize_0 : decode cJ18_stringSize 0 = .ok (.iconst 1, 1) := dk_4 (dk_at dksJ18_stringSize_0 0 rfl rfl)
theorem dJ18_stringSize_1 : decode cJ18_stringSize 1 = .ok (.istore_n 1, 1) := dk_60 (dk_at dksJ18_stringSize_0 1 rfl rfl)
theorem dJ18_stringSize_2 : decode cJ18_stringSize 2 = .ok (.iload_n 0, 1) := dk_26 (dk_at dksJ18_stringSize_0 2 rfl rfl)
theorem dJ18_stringSize_3 : decode cJ18_stringSize 3 = .ok (.ifCond .lt 8, 3) := dk_155 0 8 (dk_at dksJ18_stringSize_0 3 rfl rfl)
theorem dJ18_stringSize_6 : decode cJ18_stringSize 6 = .ok (.iconst 0, 1) := dk_3 (dk_at dksJ18_stringSize_0 6 rfl rfl)
theorem dJ18_stringSize_7 : decode cJ18_stringSize 7 = .ok (.istore_n 1, 1) := dk_60 (dk_at dksJ18_stringSize_0 7 rfl rfl)
theorem dJ18_stringSize_8 : decode cJ18_stringSize 8 = .ok (.iload_n 0, 1) := dk_26 (dk_at dksJ18_stringSize_0 8 rfl rfl)
theorem dJ18_stringSize_9 : decode cJ18_stringSize 9 = .ok (.ineg, 1) := dk_116 (dk_at dksJ18_stringSize_0 9 rfl rfl)
theorem dJ18_stringSize_10 : decode cJ18_stringSize 10 = .ok (.istore_n 0, 1) := dk_59 (dk_at dksJ18_stringSize_0 10 rfl rfl)
theorem dJ18_stringSize_11 : decode cJ18_stringSize 11 = .ok (.bipush (-10), 2) := dk_16 246 (dk_at dksJ18_stringSize_0 11 rfl rfl)
theorem dJ18_stringSize_13 : decode cJ18_stringSize 13 = .ok (.istore_n 2, 1) := dk_61 (dk_at dksJ18_stringSize_0 13 rfl rfl)
theorem dJ18_stringSize_14 : decode cJ18_stringSize 14 = .ok (.iconst 1, 1) := dk_4 (dk_at dksJ18_stringSize_0 14 rfl rfl)
theorem dJ18_stringSize_15 : decode cJ18_stringSize 15 = .ok (.istore_n 3, 1) := dk_62 (dk_at dksJ18_stringSize_0 15 rfl rfl)
theorem dJ18_stringSize_16 : decode cJ18_stringSize 16 = .ok (.iload_n 3, 1) := dk_29 (dk_at dksJ18_stringSize_0 16 rfl rfl)
theorem dJ18_stringSize_17 : decode cJ18_stringSize 17 = .ok (.bipush 10, 2) := dk_16 10 (dk_at dksJ18_stringSize_0 17 rfl rfl)
theorem dJ18_stringSize_19 : decode cJ18_stringSize 19 = .ok (.if_icmp .ge 23, 3) := dk_162 0 23 (dk_at dksJ18_stringSize_0 19 rfl rfl)
theorem dJ18_stringSize_22 : decode cJ18_stringSize 22 = .ok (.iload_n 0, 1) := dk_26 (dk_at dksJ18_stringSize_0 22 rfl rfl)
theorem dJ18_stringSize_23 : decode cJ18_stringSize 23 = .ok (.iload_n 2, 1) := dk_28 (dk_at dksJ18_stringSize_0 23 rfl rfl)
theorem dJ18_stringSize_24 : decode cJ18_stringSize 24 = .ok (.if_icmp .le 7, 3) := dk_164 0 7 (dk_at dksJ18_stringSize_1 0 rfl rfl)
theorem dJ18_stringSize_27 : decode cJ18_stringSize 27 = .ok (.iload_n 3, 1) := dk_29 (dk_at dksJ18_stringSize_1 3 rfl rfl)
theorem dJ18_stringSize_28 : decode cJ18_stringSize 28 = .ok (.iload_n 1, 1) := dk_27 (dk_at dksJ18_stringSize_1 4 rfl rfl)
theorem dJ18_stringSize_29 : decode cJ18_stringSize 29 = .ok (.iadd, 1) := dk_96 (dk_at dksJ18_stringSize_1 5 rfl rfl)
theorem dJ18_stringSize_30 : decode cJ18_stringSize 30 = .ok (.ireturn, 1) := dk_172 (dk_at dksJ18_stringSize_1 6 rfl rfl)
theorem dJ18_stringSize_31 : decode cJ18_stringSize 31 = .ok (.bipush 10, 2) := dk_16 10 (dk_at dksJ18_stringSize_1 7 rfl rfl)
theorem dJ18_stringSize_33 : decode cJ18_stringSize 33 = .ok (.iload_n 2, 1) := dk_28 (dk_at dksJ18_stringSize_1 9 rfl rfl)
theorem dJ18_stringSize_34 : decode cJ18_stringSize 34 = .ok (.imul, 1) := dk_104 (dk_at dksJ18_stringSize_1 10 rfl rfl)
theorem dJ18_stringSize_35 : decode cJ18_stringSize 35 = .ok (.istore_n 2, 1) := dk_61 (dk_at dksJ18_stringSize_1 11 rfl rfl)
theorem dJ18_stringSize_36 : decode cJ18_stringSize 36 = .ok (.iinc 3 1, 3) := dk_132 3 1 (dk_at dksJ18_stringSize_1 12 rfl rfl)
theorem dJ18_stringSize_39 : decode cJ18_stringSize 39 = .ok (.goto (-23), 3) := dk_167 255 233 (dk_at dksJ18_stringSize_1 15 rfl rfl)
theorem dJ18_stringSize_42 : decode cJ18_stringSize 42 = .ok (.bipush 10, 2) := dk_16 10 (dk_at dksJ18_stringSize_1 18 rfl rfl)
theorem dJ18_stringSize_44 : decode cJ18_stringSize 44 = .ok (.iload_n 1, 1) := dk_27 (dk_at dksJ18_stringSize_1 20 rfl rfl)
theorem dJ18_stringSize_45 : decode cJ18_stringSize 45 = .ok (.iadd, 1) := dk_96 (dk_at dksJ18_stringSize_1 21 rfl rfl)
theorem dJ18_stringSize_46 : decode cJ18_stringSize 46 = .ok (.ireturn, 1) := dk_172 (dk_at dksJ18_stringSize_1 22 rfl rfl)
abbrev cJ18_getChars : ByteArray := prog_30_method_12_code
def yJ18_getChars : MethodName := ⟨RJ18, "getChars", "(II[B)I"⟩
def dkwJ18_getChars_5 : List UInt8 := [16, 45, 84, 21, 5, 172]
abbrev dktJ18_getChars_5 : List UInt8 := dkwJ18_getChars_5 ++ []
def dkwJ18_getChars_4 : List UInt8 := [132, 5, 255, 21, 5, 178, 0, 87, 26, 116, 51, 84, 21, 6, 153, 0, 12, 44, 132, 5, 255, 21, 5]
abbrev dktJ18_getChars_4 : List UInt8 := dkwJ18_getChars_4 ++ dktJ18_getChars_5
def dkwJ18_getChars_3 : List UInt8 := [167, 255, 209, 44, 132, 5, 255, 21, 5, 178, 0, 83, 26, 116, 51, 84, 26, 16, 247, 162, 0, 16, 44]
abbrev dktJ18_getChars_3 : List UInt8 := dkwJ18_getChars_3 ++ dktJ18_getChars_4
def dkwJ18_getChars_2 : List UInt8 := [21, 5, 178, 0, 83, 21, 4, 51, 84, 44, 132, 5, 255, 21, 5, 178, 0, 87, 21, 4, 51, 84]
abbrev dktJ18_getChars_2 : List UInt8 := dkwJ18_getChars_2 ++ dktJ18_getChars_3
def dkwJ18_getChars_1 : List UInt8 := [16, 156, 163, 0, 47, 26, 16, 100, 108, 62, 29, 16, 100, 104, 26, 100, 54, 4, 29, 59, 44, 132, 5, 255]
abbrev dktJ18_getChars_1 : List UInt8 := dkwJ18_getChars_1 ++ dktJ18_getChars_2
def dkwJ18_getChars_0 : List UInt8 := [27, 54, 5, 26, 156, 0, 7, 4, 167, 0, 4, 3, 54, 6, 21, 6, 154, 0, 6, 26, 116, 59, 26]
abbrev dktJ18_getChars_0 : List UInt8 := dkwJ18_getChars_0 ++ dktJ18_getChars_1
theorem dksJ18_getChars_0 : cJ18_getChars.data.toList.drop 0 = dktJ18_getChars_0 := by decide +kernel
theorem dksJ18_getChars_1 : cJ18_getChars.data.toList.drop 23 = dktJ18_getChars_1 := dk_seg dksJ18_getChars_0 23 rfl rfl
theorem dksJ18_getChars_2 : cJ18_getChars.data.toList.drop 47 = dktJ18_getChars_2 := dk_seg dksJ18_getChars_1 24 rfl rfl
theorem dksJ18_getChars_3 : cJ18_getChars.data.toList.drop 69 = dktJ18_getChars_3 := dk_seg dksJ18_getChars_2 22 rfl rfl
theorem dksJ18_getChars_4 : cJ18_getChars.data.toList.drop 92 = dktJ18_getChars_4 := dk_seg dksJ18_getChars_3 23 rfl rfl
theorem dksJ18_getChars_5 : cJ18_getChars.data.toList.drop 115 = dktJ18_getChars_5 := dk_seg dksJ18_getChars_4 23 rfl rfl
theorem dJ18_getChars_0 : decode cJ18_getChars 0 = .ok (.iload_n 1, 1) := dk_27 (dk_at dksJ18_getChars_0 0 rfl rfl)
theorem dJ18_getChars_1 : decode cJ18_getChars 1 = .ok (.istore 5, 2) := dk_54 5 (dk_at dksJ18_getChars_0 1 rfl rfl)
theorem dJ18_getChars_3 : decode cJ18_getChars 3 = .ok (.iload_n 0, 1) := dk_26 (dk_at dksJ18_getChars_0 3 rfl rfl)
theorem dJ18_getChars_4 : decode cJ18_getChars 4 = .ok (.ifCond .ge 7, 3) := dk_156 0 7 (dk_at dksJ18_getChars_0 4 rfl rfl)
theorem dJ18_getChars_7 : decode cJ18_getChars 7 = .ok (.iconst 1, 1) := dk_4 (dk_at dksJ18_getChars_0 7 rfl rfl)
theorem dJ18_getChars_8 : decode cJ18_getChars 8 = .ok (.goto 4, 3) := dk_167 0 4 (dk_at dksJ18_getChars_0 8 rfl rfl)
theorem dJ18_getChars_11 : decode cJ18_getChars 11 = .ok (.iconst 0, 1) := dk_3 (dk_at dksJ18_getChars_0 11 rfl rfl)
theorem dJ18_getChars_12 : decode cJ18_getChars 12 = .ok (.istore 6, 2) := dk_54 6 (dk_at dksJ18_getChars_0 12 rfl rfl)
theorem dJ18_getChars_14 : decode cJ18_getChars 14 = .ok (.iload 6, 2) := dk_21 6 (dk_at dksJ18_getChars_0 14 rfl rfl)
theorem dJ18_getChars_16 : decode cJ18_getChars 16 = .ok (.ifCond .ne 6, 3) := dk_154 0 6 (dk_at dksJ18_getChars_0 16 rfl rfl)
theorem dJ18_getChars_19 : decode cJ18_getChars 19 = .ok (.iload_n 0, 1) := dk_26 (dk_at dksJ18_getChars_0 19 rfl rfl)
theorem dJ18_getChars_20 : decode cJ18_getChars 20 = .ok (.ineg, 1) := dk_116 (dk_at dksJ18_getChars_0 20 rfl rfl)
theorem dJ18_getChars_21 : decode cJ18_getChars 21 = .ok (.istore_n 0, 1) := dk_59 (dk_at dksJ18_getChars_0 21 rfl rfl)
theorem dJ18_getChars_22 : decode cJ18_getChars 22 = .ok (.iload_n 0, 1) := dk_26 (dk_at dksJ18_getChars_0 22 rfl rfl)
theorem dJ18_getChars_23 : decode cJ18_getChars 23 = .ok (.bipush (-100), 2) := dk_16 156 (dk_at dksJ18_getChars_1 0 rfl rfl)
theorem dJ18_getChars_25 : decode cJ18_getChars 25 = .ok (.if_icmp .gt 47, 3) := dk_163 0 47 (dk_at dksJ18_getChars_1 2 rfl rfl)
theorem dJ18_getChars_28 : decode cJ18_getChars 28 = .ok (.iload_n 0, 1) := dk_26 (dk_at dksJ18_getChars_1 5 rfl rfl)
theorem dJ18_getChars_29 : decode cJ18_getChars 29 = .ok (.bipush 100, 2) := dk_16 100 (dk_at dksJ18_getChars_1 6 rfl rfl)
theorem dJ18_getChars_31 : decode cJ18_getChars 31 = .ok (.idiv, 1) := dk_108 (dk_at dksJ18_getChars_1 8 rfl rfl)
theorem dJ18_getChars_32 : decode cJ18_getChars 32 = .ok (.istore_n 3, 1) := dk_62 (dk_at dksJ18_getChars_1 9 rfl rfl)
theorem dJ18_getChars_33 : decode cJ18_getChars 33 = .ok (.iload_n 3, 1) := dk_29 (dk_at dksJ18_getChars_1 10 rfl rfl)
theorem dJ18_getChars_34 : decode cJ18_getChars 34 = .ok (.bipush 100, 2) := dk_16 100 (dk_at dksJ18_getChars_1 11 rfl rfl)
theorem dJ18_getChars_36 : decode cJ18_getChars 36 = .ok (.imul, 1) := dk_104 (dk_at dksJ18_getChars_1 13 rfl rfl)
theorem dJ18_getChars_37 : decode cJ18_getChars 37 = .ok (.iload_n 0, 1) := dk_26 (dk_at dksJ18_getChars_1 14 rfl rfl)
theorem dJ18_getChars_38 : decode cJ18_getChars 38 = .ok (.isub, 1) := dk_100 (dk_at dksJ18_getChars_1 15 rfl rfl)
theorem dJ18_getChars_39 : decode cJ18_getChars 39 = .ok (.istore 4, 2) := dk_54 4 (dk_at dksJ18_getChars_1 16 rfl rfl)
theorem dJ18_getChars_41 : decode cJ18_getChars 41 = .ok (.iload_n 3, 1) := dk_29 (dk_at dksJ18_getChars_1 18 rfl rfl)
theorem dJ18_getChars_42 : decode cJ18_getChars 42 = .ok (.istore_n 0, 1) := dk_59 (dk_at dksJ18_getChars_1 19 rfl rfl)
theorem dJ18_getChars_43 : decode cJ18_getChars 43 = .ok (.aload_n 2, 1) := dk_44 (dk_at dksJ18_getChars_1 20 rfl rfl)
theorem dJ18_getChars_44 : decode cJ18_getChars 44 = .ok (.iinc 5 (-1), 3) := dk_132 5 255 (dk_at dksJ18_getChars_1 21 rfl rfl)
theorem dJ18_getChars_47 : decode cJ18_getChars 47 = .ok (.iload 5, 2) := dk_21 5 (dk_at dksJ18_getChars_2 0 rfl rfl)
theorem dJ18_getChars_49 : decode cJ18_getChars 49 = .ok (.getstatic 83, 3) := dk_178 0 83 (dk_at dksJ18_getChars_2 2 rfl rfl)
theorem dJ18_getChars_52 : decode cJ18_getChars 52 = .ok (.iload 4, 2) := dk_21 4 (dk_at dksJ18_getChars_2 5 rfl rfl)
theorem dJ18_getChars_54 : decode cJ18_getChars 54 = .ok (.baload, 1) := dk_51 (dk_at dksJ18_getChars_2 7 rfl rfl)
theorem dJ18_getChars_55 : decode cJ18_getChars 55 = .ok (.bastore, 1) := dk_84 (dk_at dksJ18_getChars_2 8 rfl rfl)
theorem dJ18_getChars_56 : decode cJ18_getChars 56 = .ok (.aload_n 2, 1) := dk_44 (dk_at dksJ18_getChars_2 9 rfl rfl)
theorem dJ18_getChars_57 : decode cJ18_getChars 57 = .ok (.iinc 5 (-1), 3) := dk_132 5 255 (dk_at dksJ18_getChars_2 10 rfl rfl)
theorem dJ18_getChars_60 : decode cJ18_getChars 60 = .ok (.iload 5, 2) := dk_21 5 (dk_at dksJ18_getChars_2 13 rfl rfl)
theorem dJ18_getChars_62 : decode cJ18_getChars 62 = .ok (.getstatic 87, 3) := dk_178 0 87 (dk_at dksJ18_getChars_2 15 rfl rfl)
theorem dJ18_getChars_65 : decode cJ18_getChars 65 = .ok (.iload 4, 2) := dk_21 4 (dk_at dksJ18_getChars_2 18 rfl rfl)
theorem dJ18_getChars_67 : decode cJ18_getChars 67 = .ok (.baload, 1) := dk_51 (dk_at dksJ18_getChars_2 20 rfl rfl)
theorem dJ18_getChars_68 : decode cJ18_getChars 68 = .ok (.bastore, 1) := dk_84 (dk_at dksJ18_getChars_2 21 rfl rfl)
theorem dJ18_getChars_69 : decode cJ18_getChars 69 = .ok (.goto (-47), 3) := dk_167 255 209 (dk_at dksJ18_getChars_3 0 rfl rfl)
theorem dJ18_getChars_72 : decode cJ18_getChars 72 = .ok (.aload_n 2, 1) := dk_44 (dk_at dksJ18_getChars_3 3 rfl rfl)
theorem dJ18_getChars_73 : decode cJ18_getChars 73 = .ok (.iinc 5 (-1), 3) := dk_132 5 255 (dk_at dksJ18_getChars_3 4 rfl rfl)
theorem dJ18_getChars_76 : decode cJ18_getChars 76 = .ok (.iload 5, 2) := dk_21 5 (dk_at dksJ18_getChars_3 7 rfl rfl)
theorem dJ18_getChars_78 : decode cJ18_getChars 78 = .ok (.getstatic 83, 3) := dk_178 0 83 (dk_at dksJ18_getChars_3 9 rfl rfl)
theorem dJ18_getChars_81 : decode cJ18_getChars 81 = .ok (.iload_n 0, 1) := dk_26 (dk_at dksJ18_getChars_3 12 rfl rfl)
theorem dJ18_getChars_82 : decode cJ18_getChars 82 = .ok (.ineg, 1) := dk_116 (dk_at dksJ18_getChars_3 13 rfl rfl)
theorem dJ18_getChars_83 : decode cJ18_getChars 83 = .ok (.baload, 1) := dk_51 (dk_at dksJ18_getChars_3 14 rfl rfl)
theorem dJ18_getChars_84 : decode cJ18_getChars 84 = .ok (.bastore, 1) := dk_84 (dk_at dksJ18_getChars_3 15 rfl rfl)
theorem dJ18_getChars_85 : decode cJ18_getChars 85 = .ok (.iload_n 0, 1) := dk_26 (dk_at dksJ18_getChars_3 16 rfl rfl)
theorem dJ18_getChars_86 : decode cJ18_getChars 86 = .ok (.bipush (-9), 2) := dk_16 247 (dk_at dksJ18_getChars_3 17 rfl rfl)
theorem dJ18_getChars_88 : decode cJ18_getChars 88 = .ok (.if_icmp .ge 16, 3) := dk_162 0 16 (dk_at dksJ18_getChars_3 19 rfl rfl)
theorem dJ18_getChars_91 : decode cJ18_getChars 91 = .ok (.aload_n 2, 1) := dk_44 (dk_at dksJ18_getChars_3 22 rfl rfl)
theorem dJ18_getChars_92 : decode cJ18_getChars 92 = .ok (.iinc 5 (-1), 3) := dk_132 5 255 (dk_at dksJ18_getChars_4 0 rfl rfl)
theorem dJ18_getChars_95 : decode cJ18_getChars 95 = .ok (.iload 5, 2) := dk_21 5 (dk_at dksJ18_getChars_4 3 rfl rfl)
theorem dJ18_getChars_97 : decode cJ18_getChars 97 = .ok (.getstatic 87, 3) := dk_178 0 87 (dk_at dksJ18_getChars_4 5 rfl rfl)
theorem dJ18_getChars_100 : decode cJ18_getChars 100 = .ok (.iload_n 0, 1) := dk_26 (dk_at dksJ18_getChars_4 8 rfl rfl)
theorem dJ18_getChars_101 : decode cJ18_getChars 101 = .ok (.ineg, 1) := dk_116 (dk_at dksJ18_getChars_4 9 rfl rfl)
theorem dJ18_getChars_102 : decode cJ18_getChars 102 = .ok (.baload, 1) := dk_51 (dk_at dksJ18_getChars_4 10 rfl rfl)
theorem dJ18_getChars_103 : decode cJ18_getChars 103 = .ok (.bastore, 1) := dk_84 (dk_at dksJ18_getChars_4 11 rfl rfl)
theorem dJ18_getChars_104 : decode cJ18_getChars 104 = .ok (.iload 6, 2) := dk_21 6 (dk_at dksJ18_getChars_4 12 rfl rfl)
theorem dJ18_getChars_106 : decode cJ18_getChars 106 = .ok (.ifCond .eq 12, 3) := dk_153 0 12 (dk_at dksJ18_getChars_4 14 rfl rfl)
theorem dJ18_getChars_109 : decode cJ18_getChars 109 = .ok (.aload_n 2, 1) := dk_44 (dk_at dksJ18_getChars_4 17 rfl rfl)
theorem dJ18_getChars_110 : decode cJ18_getChars 110 = .ok (.iinc 5 (-1), 3) := dk_132 5 255 (dk_at dksJ18_getChars_4 18 rfl rfl)
theorem dJ18_getChars_113 : decode cJ18_getChars 113 = .ok (.iload 5, 2) := dk_21 5 (dk_at dksJ18_getChars_4 21 rfl rfl)
theorem dJ18_getChars_115 : decode cJ18_getChars 115 = .ok (.bipush 45, 2) := dk_16 45 (dk_at dksJ18_getChars_5 0 rfl rfl)
theorem dJ18_getChars_117 : decode cJ18_getChars 117 = .ok (.bastore, 1) := dk_84 (dk_at dksJ18_getChars_5 2 rfl rfl)
theorem dJ18_getChars_118 : decode cJ18_getChars 118 = .ok (.iload 5, 2) := dk_21 5 (dk_at dksJ18_getChars_5 3 rfl rfl)
theorem dJ18_getChars_120 : decode cJ18_getChars 120 = .ok (.ireturn, 1) := dk_172 (dk_at dksJ18_getChars_5 5 rfl rfl)
abbrev cJ18_valueOf : ByteArray := prog_30_method_22_code
def yJ18_valueOf : MethodName := ⟨RJ18, "valueOf", "(I)Ljava/lang/Integer;"⟩
def dkwJ18_valueOf_1 : List UInt8 := [187, 0, 1, 89, 26, 183, 0, 199, 176]
abbrev dktJ18_valueOf_1 : List UInt8 := dkwJ18_valueOf_1 ++ []
def dkwJ18_valueOf_0 : List UInt8 := [26, 16, 128, 161, 0, 20, 26, 178, 0, 191, 163, 0, 13, 178, 0, 195, 26, 17, 0, 128, 96, 50, 176]
abbrev dktJ18_valueOf_0 : List UInt8 := dkwJ18_valueOf_0 ++ dktJ18_valueOf_1
theorem dksJ18_valueOf_0 : cJ18_valueOf.data.toList.drop 0 = dktJ18_valueOf_0 := by decide +kernel
theorem dksJ18_valueOf_1 : cJ18_valueOf.data.toList.drop 23 = dktJ18_valueOf_1 := dk_seg dksJ18_valueOf_0 23 rfl rfl
theorem dJ18_valueOf_0 : decode cJ18_valueOf 0 = .ok (.iload_n 0, 1) := dk_26 (dk_at dksJ18_valueOf_0 0 rfl rfl)
theorem dJ18_valueOf_1 : decode cJ18_valueOf 1 = .ok (.bipush (-128), 2) := dk_16 128 (dk_at dksJ18_valueOf_0 1 rfl rfl)
theorem dJ18_valueOf_3 : decode cJ18_valueOf 3 = .ok (.if_icmp .lt 20, 3) := dk_161 0 20 (dk_at dksJ18_valueOf_0 3 rfl rfl)
theorem dJ18_valueOf_6 : decode cJ18_valueOf 6 = .ok (.iload_n 0, 1) := dk_26 (dk_at dksJ18_valueOf_0 6 rfl rfl)
theorem dJ18_valueOf_7 : decode cJ18_valueOf 7 = .ok (.getstatic 191, 3) := dk_178 0 191 (dk_at dksJ18_valueOf_0 7 rfl rfl)
theorem dJ18_valueOf_10 : decode cJ18_valueOf 10 = .ok (.if_icmp .gt 13, 3) := dk_163 0 13 (dk_at dksJ18_valueOf_0 10 rfl rfl)
theorem dJ18_valueOf_13 : decode cJ18_valueOf 13 = .ok (.getstatic 195, 3) := dk_178 0 195 (dk_at dksJ18_valueOf_0 13 rfl rfl)
theorem dJ18_valueOf_16 : decode cJ18_valueOf 16 = .ok (.iload_n 0, 1) := dk_26 (dk_at dksJ18_valueOf_0 16 rfl rfl)
theorem dJ18_valueOf_17 : decode cJ18_valueOf 17 = .ok (.sipush 128, 3) := dk_17 0 128 (dk_at dksJ18_valueOf_0 17 rfl rfl)
theorem dJ18_valueOf_20 : decode cJ18_valueOf 20 = .ok (.iadd, 1) := dk_96 (dk_at dksJ18_valueOf_0 20 rfl rfl)
theorem dJ18_valueOf_21 : decode cJ18_valueOf 21 = .ok (.aaload, 1) := dk_50 (dk_at dksJ18_valueOf_0 21 rfl rfl)
theorem dJ18_valueOf_22 : decode cJ18_valueOf 22 = .ok (.areturn, 1) := dk_176 (dk_at dksJ18_valueOf_0 22 rfl rfl)
theorem dJ18_valueOf_23 : decode cJ18_valueOf 23 = .ok (.new 1, 3) := dk_187 0 1 (dk_at dksJ18_valueOf_1 0 rfl rfl)
theorem dJ18_valueOf_26 : decode cJ18_valueOf 26 = .ok (.dup, 1) := dk_89 (dk_at dksJ18_valueOf_1 3 rfl rfl)
theorem dJ18_valueOf_27 : decode cJ18_valueOf 27 = .ok (.iload_n 0, 1) := dk_26 (dk_at dksJ18_valueOf_1 4 rfl rfl)
theorem dJ18_valueOf_28 : decode cJ18_valueOf 28 = .ok (.invokespecial 199, 3) := dk_183 0 199 (dk_at dksJ18_valueOf_1 5 rfl rfl)
theorem dJ18_valueOf_31 : decode cJ18_valueOf 31 = .ok (.areturn, 1) := dk_176 (dk_at dksJ18_valueOf_1 8 rfl rfl)
abbrev cJ18_init : ByteArray := prog_30_method_23_code
def yJ18_init : MethodName := ⟨RJ18, "<init>", "(I)V"⟩
def dkwJ18_init_0 : List UInt8 := [42, 183, 0, 202, 42, 27, 181, 0, 205, 177]
abbrev dktJ18_init_0 : List UInt8 := dkwJ18_init_0 ++ []
theorem dksJ18_init_0 : cJ18_init.data.toList.drop 0 = dktJ18_init_0 := by decide +kernel
theorem dJ18_init_0 : decode cJ18_init 0 = .ok (.aload_n 0, 1) := dk_42 (dk_at dksJ18_init_0 0 rfl rfl)
theorem dJ18_init_1 : decode cJ18_init 1 = .ok (.invokespecial 202, 3) := dk_183 0 202 (dk_at dksJ18_init_0 1 rfl rfl)
theorem dJ18_init_4 : decode cJ18_init 4 = .ok (.aload_n 0, 1) := dk_42 (dk_at dksJ18_init_0 4 rfl rfl)
theorem dJ18_init_5 : decode cJ18_init 5 = .ok (.iload_n 1, 1) := dk_27 (dk_at dksJ18_init_0 5 rfl rfl)
theorem dJ18_init_6 : decode cJ18_init 6 = .ok (.putfield 205, 3) := dk_181 0 205 (dk_at dksJ18_init_0 6 rfl rfl)
theorem dJ18_init_9 : decode cJ18_init 9 = .ok (.return_, 1) := dk_177 (dk_at dksJ18_init_0 9 rfl rfl)
abbrev cJ18_equals : ByteArray := prog_30_method_34_code
def yJ18_equals : MethodName := ⟨RJ18, "equals", "(Ljava/lang/Object;)Z"⟩
def dkwJ18_equals_1 : List UInt8 := [167, 0, 4, 3, 172, 3, 172]
abbrev dktJ18_equals_1 : List UInt8 := dkwJ18_equals_1 ++ []
def dkwJ18_equals_0 : List UInt8 := [43, 193, 0, 1, 153, 0, 23, 42, 180, 0, 205, 43, 192, 0, 1, 182, 0, 211, 160, 0, 7, 4]
abbrev dktJ18_equals_0 : List UInt8 := dkwJ18_equals_0 ++ dktJ18_equals_1
theorem dksJ18_equals_0 : cJ18_equals.data.toList.drop 0 = dktJ18_equals_0 := by decide +kernel
theorem dksJ18_equals_1 : cJ18_equals.data.toList.drop 22 = dktJ18_equals_1 := dk_seg dksJ18_equals_0 22 rfl rfl
theorem dJ18_equals_0 : decode cJ18_equals 0 = .ok (.aload_n 1, 1) := dk_43 (dk_at dksJ18_equals_0 0 rfl rfl)
theorem dJ18_equals_1 : decode cJ18_equals 1 = .ok (.instanceof 1, 3) := dk_193 0 1 (dk_at dksJ18_equals_0 1 rfl rfl)
theorem dJ18_equals_4 : decode cJ18_equals 4 = .ok (.ifCond .eq 23, 3) := dk_153 0 23 (dk_at dksJ18_equals_0 4 rfl rfl)
theorem dJ18_equals_7 : decode cJ18_equals 7 = .ok (.aload_n 0, 1) := dk_42 (dk_at dksJ18_equals_0 7 rfl rfl)
theorem dJ18_equals_8 : decode cJ18_equals 8 = .ok (.getfield 205, 3) := dk_180 0 205 (dk_at dksJ18_equals_0 8 rfl rfl)
theorem dJ18_equals_11 : decode cJ18_equals 11 = .ok (.aload_n 1, 1) := dk_43 (dk_at dksJ18_equals_0 11 rfl rfl)
theorem dJ18_equals_12 : decode cJ18_equals 12 = .ok (.checkcast 1, 3) := dk_192 0 1 (dk_at dksJ18_equals_0 12 rfl rfl)
theorem dJ18_equals_15 : decode cJ18_equals 15 = .ok (.invokevirtual 211, 3) := dk_182 0 211 (dk_at dksJ18_equals_0 15 rfl rfl)
theorem dJ18_equals_18 : decode cJ18_equals 18 = .ok (.if_icmp .ne 7, 3) := dk_160 0 7 (dk_at dksJ18_equals_0 18 rfl rfl)
theorem dJ18_equals_21 : decode cJ18_equals 21 = .ok (.iconst 1, 1) := dk_4 (dk_at dksJ18_equals_0 21 rfl rfl)
theorem dJ18_equals_22 : decode cJ18_equals 22 = .ok (.goto 4, 3) := dk_167 0 4 (dk_at dksJ18_equals_1 0 rfl rfl)
theorem dJ18_equals_25 : decode cJ18_equals 25 = .ok (.iconst 0, 1) := dk_3 (dk_at dksJ18_equals_1 3 rfl rfl)
theorem dJ18_equals_26 : decode cJ18_equals 26 = .ok (.ireturn, 1) := dk_172 (dk_at dksJ18_equals_1 4 rfl rfl)
theorem dJ18_equals_27 : decode cJ18_equals 27 = .ok (.iconst 0, 1) := dk_3 (dk_at dksJ18_equals_1 5 rfl rfl)
theorem dJ18_equals_28 : decode cJ18_equals 28 = .ok (.ireturn, 1) := dk_172 (dk_at dksJ18_equals_1 6 rfl rfl)
theorem q121 : (Jvm.Cond.initialized "java/lang/Integer") ∈ lw_all := lw_g (lw_at lw_m1 25 rfl) rfl
theorem q430 : (Jvm.Cond.selects "java/lang/Integer" ({ cls := "java/lang/Object", name := "getClass", desc := "()Ljava/lang/Class;" } : Jvm.MethodName) ({ cls := "java/lang/Object", name := "getClass", desc := "()Ljava/lang/Class;" } : Jvm.MethodName)) ∈ lw_all := lw_g (lw_at lw_m2 94 rfl) rfl
theorem q486 : (Jvm.Cond.instanceMethod ({ cls := "java/lang/Integer", name := "intValue", desc := "()I" } : Jvm.MethodName)) ∈ lw_all := lw_g (lw_at lw_m2 150 rfl) rfl
theorem q487 : (Jvm.Cond.selects "java/lang/Integer" ({ cls := "java/lang/Integer", name := "intValue", desc := "()I" } : Jvm.MethodName) ({ cls := "java/lang/Integer", name := "intValue", desc := "()I" } : Jvm.MethodName)) ∈ lw_all := lw_g (lw_at lw_m2 151 rfl) rfl
theorem q488 : (Jvm.Cond.code ({ cls := "java/lang/Integer", name := "intValue", desc := "()I" } : Jvm.MethodName) prog_30_method_27_code (1 : Nat) (Option.some Jvm.ClassFile.FieldType.int)) ∈ lw_all := lw_g (lw_at lw_m2 152 rfl) rfl
theorem q875 : (Jvm.Cond.static ({ cls := "java/lang/Integer", name := "stringSize", desc := "(I)I" } : Jvm.MethodName)) ∈ lw_all := lw_g (lw_at lw_m4 59 rfl) rfl
theorem q876 : (Jvm.Cond.code ({ cls := "java/lang/Integer", name := "stringSize", desc := "(I)I" } : Jvm.MethodName) prog_30_method_13_code (4 : Nat) (Option.some Jvm.ClassFile.FieldType.int)) ∈ lw_all := lw_g (lw_at lw_m4 60 rfl) rfl
theorem q878 : (Jvm.Cond.static ({ cls := "java/lang/Integer", name := "getChars", desc := "(II[B)I" } : Jvm.MethodName)) ∈ lw_all := lw_g (lw_at lw_m4 62 rfl) rfl
theorem q879 : (Jvm.Cond.code ({ cls := "java/lang/Integer", name := "getChars", desc := "(II[B)I" } : Jvm.MethodName) prog_30_method_12_code (7 : Nat) (Option.some Jvm.ClassFile.FieldType.int)) ∈ lw_all := lw_g (lw_at lw_m4 63 rfl) rfl
theorem q880 : (Jvm.Cond.fieldLink "java/lang/Integer" (83 : Nat) "java/lang/Integer" "DigitOnes" "[B") ∈ lw_all := lw_g (lw_at lw_m4 64 rfl) rfl
theorem q881 : (Jvm.Cond.laysStatic "java/lang/Integer" "DigitOnes" "[B") ∈ lw_tbl := lw_at lw_m4 65 rfl
theorem q882 : (Jvm.Cond.fieldLink "java/lang/Integer" (87 : Nat) "java/lang/Integer" "DigitTens" "[B") ∈ lw_all := lw_g (lw_at lw_m4 66 rfl) rfl
theorem q883 : (Jvm.Cond.laysStatic "java/lang/Integer" "DigitTens" "[B") ∈ lw_tbl := lw_at lw_m4 67 rfl
theorem q1177 : (Jvm.Cond.static ({ cls := "java/lang/Integer", name := "valueOf", desc := "(I)Ljava/lang/Integer;" } : Jvm.MethodName)) ∈ lw_all := lw_g (lw_at lw_m5 121 rfl) rfl
theorem q1178 : (Jvm.Cond.code ({ cls := "java/lang/Integer", name := "valueOf", desc := "(I)Ljava/lang/Integer;" } : Jvm.MethodName) prog_30_method_22_code (1 : Nat) (Option.some (Jvm.ClassFile.FieldType.object "java/lang/Integer"))) ∈ lw_all := lw_g (lw_at lw_m5 122 rfl) rfl
theorem q1179 : (Jvm.Cond.fieldLink "java/lang/Integer" (191 : Nat) "java/lang/Integer$IntegerCache" "high" "I") ∈ lw_all := lw_g (lw_at lw_m5 123 rfl) rfl
theorem q1181 : (Jvm.Cond.fieldLink "java/lang/Integer" (195 : Nat) "java/lang/Integer$IntegerCache" "cache" "[Ljava/lang/Integer;") ∈ lw_all := lw_g (lw_at lw_m5 125 rfl) rfl
theorem q1183 : (Jvm.Cond.classLink "java/lang/Integer" (1 : Nat) "java/lang/Integer") ∈ lw_all := lw_g (lw_at lw_m5 127 rfl) rfl
theorem q1184 : (Jvm.Cond.instantiable "java/lang/Integer" (1 : Nat)) ∈ lw_all := lw_g (lw_at lw_m5 128 rfl) rfl
theorem q1185 : (Jvm.Cond.methodLink "java/lang/Integer" (199 : Nat) ({ cls := "java/lang/Integer", name := "<init>", desc := "(I)V" } : Jvm.MethodName)) ∈ lw_all := lw_g (lw_at lw_m5 129 rfl) rfl
theorem q1186 : (Jvm.Cond.instanceMethod ({ cls := "java/lang/Integer", name := "<init>", desc := "(I)V" } : Jvm.MethodName)) ∈ lw_all := lw_g (lw_at lw_m5 130 rfl) rfl
theorem q1187 : (Jvm.Cond.code ({ cls := "java/lang/Integer", name := "<init>", desc := "(I)V" } : Jvm.MethodName) prog_30_method_23_code (2 : Nat) (Option.none : Option Jvm.ClassFile.FieldType)) ∈ lw_all := lw_g (lw_at lw_m5 131 rfl) rfl
theorem q1188 : (Jvm.Cond.methodLink "java/lang/Integer" (202 : Nat) ({ cls := "java/lang/Number", name := "<init>", desc := "()V" } : Jvm.MethodName)) ∈ lw_all := lw_g (lw_at lw_m5 132 rfl) rfl
theorem q1192 : (Jvm.Cond.fieldLink "java/lang/Integer" (205 : Nat) "java/lang/Integer" "value" "I") ∈ lw_all := lw_g (lw_at lw_m5 136 rfl) rfl
theorem q1193 : (Jvm.Cond.laysFinal "java/lang/Integer" "java/lang/Integer" "value" "I") ∈ lw_all := lw_g (lw_at lw_m5 137 rfl) rfl
theorem q1194 : (Jvm.Cond.soleField "java/lang/Integer" "value") ∈ lw_all := lw_g (lw_at lw_m5 138 rfl) rfl
theorem q1195 : (Jvm.Cond.superclass "java/lang/Integer" "java/lang/Number") ∈ lw_all := lw_g (lw_at lw_m5 139 rfl) rfl
theorem q1232 : (Jvm.Cond.selects "java/lang/Integer" ({ cls := "java/lang/Object", name := "equals", desc := "(Ljava/lang/Object;)Z" } : Jvm.MethodName) ({ cls := "java/lang/Integer", name := "equals", desc := "(Ljava/lang/Object;)Z" } : Jvm.MethodName)) ∈ lw_all := lw_g (lw_at lw_m5 176 rfl) rfl
theorem q1233 : (Jvm.Cond.instanceMethod ({ cls := "java/lang/Integer", name := "equals", desc := "(Ljava/lang/Object;)Z" } : Jvm.MethodName)) ∈ lw_all := lw_g (lw_at lw_m5 177 rfl) rfl
theorem q1234 : (Jvm.Cond.code ({ cls := "java/lang/Integer", name := "equals", desc := "(Ljava/lang/Object;)Z" } : Jvm.MethodName) prog_30_method_34_code (2 : Nat) (Option.some Jvm.ClassFile.FieldType.boolean)) ∈ lw_all := lw_g (lw_at lw_m5 178 rfl) rfl
theorem q1235 : (Jvm.Cond.methodLink "java/lang/Integer" (211 : Nat) ({ cls := "java/lang/Integer", name := "intValue", desc := "()I" } : Jvm.MethodName)) ∈ lw_all := lw_g (lw_at lw_m5 179 rfl) rfl
theorem q2337 : (Jvm.Cond.castable "java/lang/Integer" "java/lang/Object") ∈ lw_tbl := lw_at lw_m10 81 rfl
theorem in_J18 : ∀ w ∈ wsJ180, w ∈ lw_all := lw_in wsJ180 [1193] (by decide +kernel) (by decide +kernel)
/-! java/lang/AbstractStringBuilder -/
set_option maxRecDepth 100000
def RJ19 : String := "java/lang/AbstractStringBuilder"
abbrev cJ19_init : ByteArray := prog_19_method_2_code
def yJ19_init : MethodName := ⟨RJ19, "<init>", "(I)V"⟩
def dkwJ19_init_1 : List UInt8 := [167, 0, 16, 42, 27, 184, 0, 26, 181, 0, 15, 42, 4, 181, 0, 22, 177]
abbrev dktJ19_init_1 : List UInt8 := dkwJ19_init_1 ++ []
def dkwJ19_init_0 : List UInt8 := [42, 183, 0, 3, 178, 0, 18, 153, 0, 18, 42, 27, 188, 8, 181, 0, 15, 42, 3, 181, 0, 22]
abbrev dktJ19_init_0 : List UInt8 := dkwJ19_init_0 ++ dktJ19_init_1
theorem dksJ19_init_0 : cJ19_init.data.toList.drop 0 = dktJ19_init_0 := by decide +kernel
theorem dksJ19_init_1 : cJ19_init.data.toList.drop 22 = dktJ19_init_1 := dk_seg dksJ19_init_0 22 rfl rfl
theorem dJ19_init_0 : decode cJ19_init 0 = .ok (.aload_n 0, 1) := dk_42 (dk_at dksJ19_init_0 0 rfl rfl)
theorem dJ19_init_1 : decode cJ19_init 1 = .ok (.invokespecial 3, 3) := dk_183 0 3 (dk_at dksJ19_init_0 1 rfl rfl)
theorem dJ19_init_4 : decode cJ19_init 4 = .ok (.getstatic 18, 3) := dk_178 0 18 (dk_at dksJ19_init_0 4 rfl rfl)
theorem dJ19_init_7 : decode cJ19_init 7 = .ok (.ifCond .eq 18, 3) := dk_153 0 18 (dk_at dksJ19_init_0 7 rfl rfl)
theorem dJ19_init_10 : decode cJ19_init 10 = .ok (.aload_n 0, 1) := dk_42 (dk_at dksJ19_init_0 10 rfl rfl)
theorem dJ19_init_11 : decode cJ19_init 11 = .ok (.iload_n 1, 1) := dk_27 (dk_at dksJ19_init_0 11 rfl rfl)
theorem dJ19_init_12 : decode cJ19_init 12 = .ok (.newarray .byte, 2) := dk_188_8 (dk_at dksJ19_init_0 12 rfl rfl)
theorem dJ19_init_14 : decode cJ19_init 14 = .ok (.putfield 15, 3) := dk_181 0 15 (dk_at dksJ19_init_0 14 rfl rfl)
theorem dJ19_init_17 : decode cJ19_init 17 = .ok (.aload_n 0, 1) := dk_42 (dk_at dksJ19_init_0 17 rfl rfl)
theorem dJ19_init_18 : decode cJ19_init 18 = .ok (.iconst 0, 1) := dk_3 (dk_at dksJ19_init_0 18 rfl rfl)
theorem dJ19_init_19 : decode cJ19_init 19 = .ok (.putfield 22, 3) := dk_181 0 22 (dk_at dksJ19_init_0 19 rfl rfl)
theorem dJ19_init_22 : decode cJ19_init 22 = .ok (.goto 16, 3) := dk_167 0 16 (dk_at dksJ19_init_1 0 rfl rfl)
theorem dJ19_init_25 : decode cJ19_init 25 = .ok (.aload_n 0, 1) := dk_42 (dk_at dksJ19_init_1 3 rfl rfl)
theorem dJ19_init_26 : decode cJ19_init 26 = .ok (.iload_n 1, 1) := dk_27 (dk_at dksJ19_init_1 4 rfl rfl)
theorem dJ19_init_27 : decode cJ19_init 27 = .ok (.invokestatic 26, 3) := dk_184 0 26 (dk_at dksJ19_init_1 5 rfl rfl)
theorem dJ19_init_30 : decode cJ19_init 30 = .ok (.putfield 15, 3) := dk_181 0 15 (dk_at dksJ19_init_1 8 rfl rfl)
theorem dJ19_init_33 : decode cJ19_init 33 = .ok (.aload_n 0, 1) := dk_42 (dk_at dksJ19_init_1 11 rfl rfl)
theorem dJ19_init_34 : decode cJ19_init 34 = .ok (.iconst 1, 1) := dk_4 (dk_at dksJ19_init_1 12 rfl rfl)
theorem dJ19_init_35 : decode cJ19_init 35 = .ok (.putfield 22, 3) := dk_181 0 22 (dk_at dksJ19_init_1 13 rfl rfl)
theorem dJ19_init_38 : decode cJ19_init 38 = .ok (.return_, 1) := dk_177 (dk_at dksJ19_init_1 16 rfl rfl)
abbrev cJ19_append : ByteArray := prog_19_method_22_code
def yJ19_append : MethodName := ⟨RJ19, "append", "(Ljava/lang/String;)Ljava/lang/AbstractStringBuilder;"⟩
def dkwJ19_append_1 : List UInt8 := [42, 42, 180, 0, 79, 43, 182, 0, 208, 42, 89, 180, 0, 79, 28, 96, 181, 0, 79, 42, 176]
abbrev dktJ19_append_1 : List UInt8 := dkwJ19_append_1 ++ []
def dkwJ19_append_0 : List UInt8 := [43, 199, 0, 8, 42, 182, 0, 204, 176, 43, 182, 0, 32, 61, 42, 42, 180, 0, 79, 28, 96, 182, 0, 100]
abbrev dktJ19_append_0 : List UInt8 := dkwJ19_append_0 ++ dktJ19_append_1
theorem dksJ19_append_0 : cJ19_append.data.toList.drop 0 = dktJ19_append_0 := by decide +kernel
theorem dksJ19_append_1 : cJ19_append.data.toList.drop 24 = dktJ19_append_1 := dk_seg dksJ19_append_0 24 rfl rfl
theorem dJ19_append_0 : decode cJ19_append 0 = .ok (.aload_n 1, 1) := dk_43 (dk_at dksJ19_append_0 0 rfl rfl)
theorem dJ19_append_1 : decode cJ19_append 1 = .ok (.ifnonnull 8, 3) := dk_199 0 8 (dk_at dksJ19_append_0 1 rfl rfl)
theorem dJ19_append_4 : decode cJ19_append 4 = .ok (.aload_n 0, 1) := dk_42 (dk_at dksJ19_append_0 4 rfl rfl)
theorem dJ19_append_5 : decode cJ19_append 5 = .ok (.invokevirtual 204, 3) := dk_182 0 204 (dk_at dksJ19_append_0 5 rfl rfl)
theorem dJ19_append_8 : decode cJ19_append 8 = .ok (.areturn, 1) := dk_176 (dk_at dksJ19_append_0 8 rfl rfl)
theorem dJ19_append_9 : decode cJ19_append 9 = .ok (.aload_n 1, 1) := dk_43 (dk_at dksJ19_append_0 9 rfl rfl)
theorem dJ19_append_10 : decode cJ19_append 10 = .ok (.invokevirtual 32, 3) := dk_182 0 32 (dk_at dksJ19_append_0 10 rfl rfl)
theorem dJ19_append_13 : decode cJ19_append 13 = .ok (.istore_n 2, 1) := dk_61 (dk_at dksJ19_append_0 13 rfl rfl)
theorem dJ19_append_14 : decode cJ19_append 14 = .ok (.aload_n 0, 1) := dk_42 (dk_at dksJ19_append_0 14 rfl rfl)
theorem dJ19_append_15 : decode cJ19_append 15 = .ok (.aload_n 0, 1) := dk_42 (dk_at dksJ19_append_0 15 rfl rfl)
theorem dJ19_append_16 : decode cJ19_append 16 = .ok (.getfield 79, 3) := dk_180 0 79 (dk_at dksJ19_append_0 16 rfl rfl)
theorem dJ19_append_19 : decode cJ19_append 19 = .ok (.iload_n 2, 1) := dk_28 (dk_at dksJ19_append_0 19 rfl rfl)
theorem dJ19_append_20 : decode cJ19_append 20 = .ok (.iadd, 1) := dk_96 (dk_at dksJ19_append_0 20 rfl rfl)
theorem dJ19_append_21 : decode cJ19_append 21 = .ok (.invokevirtual 100, 3) := dk_182 0 100 (dk_at dksJ19_append_0 21 rfl rfl)
theorem dJ19_append_24 : decode cJ19_append 24 = .ok (.aload_n 0, 1) := dk_42 (dk_at dksJ19_append_1 0 rfl rfl)
theorem dJ19_append_25 : decode cJ19_append 25 = .ok (.aload_n 0, 1) := dk_42 (dk_at dksJ19_append_1 1 rfl rfl)
theorem dJ19_append_26 : decode cJ19_append 26 = .ok (.getfield 79, 3) := dk_180 0 79 (dk_at dksJ19_append_1 2 rfl rfl)
theorem dJ19_append_29 : decode cJ19_append 29 = .ok (.aload_n 1, 1) := dk_43 (dk_at dksJ19_append_1 5 rfl rfl)
theorem dJ19_append_30 : decode cJ19_append 30 = .ok (.invokevirtual 208, 3) := dk_182 0 208 (dk_at dksJ19_append_1 6 rfl rfl)
theorem dJ19_append_33 : decode cJ19_append 33 = .ok (.aload_n 0, 1) := dk_42 (dk_at dksJ19_append_1 9 rfl rfl)
theorem dJ19_append_34 : decode cJ19_append 34 = .ok (.dup, 1) := dk_89 (dk_at dksJ19_append_1 10 rfl rfl)
theorem dJ19_append_35 : decode cJ19_append 35 = .ok (.getfield 79, 3) := dk_180 0 79 (dk_at dksJ19_append_1 11 rfl rfl)
theorem dJ19_append_38 : decode cJ19_append 38 = .ok (.iload_n 2, 1) := dk_28 (dk_at dksJ19_append_1 14 rfl rfl)
theorem dJ19_append_39 : decode cJ19_append 39 = .ok (.iadd, 1) := dk_96 (dk_at dksJ19_append_1 15 rfl rfl)
theorem dJ19_append_40 : decode cJ19_append 40 = .ok (.putfield 79, 3) := dk_181 0 79 (dk_at dksJ19_append_1 16 rfl rfl)
theorem dJ19_append_43 : decode cJ19_append 43 = .ok (.aload_n 0, 1) := dk_42 (dk_at dksJ19_append_1 19 rfl rfl)
theorem dJ19_append_44 : decode cJ19_append 44 = .ok (.areturn, 1) := dk_176 (dk_at dksJ19_append_1 20 rfl rfl)
abbrev cJ19_appendNull : ByteArray := prog_19_method_26_code
def yJ19_appendNull : MethodName := ⟨RJ19, "appendNull", "()Ljava/lang/AbstractStringBuilder;"⟩
def dkwJ19_appendNull_3 : List UInt8 := [184, 0, 226, 60, 42, 27, 181, 0, 79, 42, 176]
abbrev dktJ19_appendNull_3 : List UInt8 := dkwJ19_appendNull_3 ++ []
def dkwJ19_appendNull_2 : List UInt8 := [16, 108, 84, 44, 27, 132, 1, 1, 16, 108, 84, 167, 0, 17, 44, 27, 16, 110, 16, 117, 16, 108, 16, 108]
abbrev dktJ19_appendNull_2 : List UInt8 := dkwJ19_appendNull_2 ++ dktJ19_appendNull_3
def dkwJ19_appendNull_1 : List UInt8 := [153, 0, 38, 44, 27, 132, 1, 1, 16, 110, 84, 44, 27, 132, 1, 1, 16, 117, 84, 44, 27, 132, 1, 1]
abbrev dktJ19_appendNull_1 : List UInt8 := dkwJ19_appendNull_1 ++ dktJ19_appendNull_2
def dkwJ19_appendNull_0 : List UInt8 := [42, 42, 180, 0, 79, 7, 96, 182, 0, 100, 42, 180, 0, 79, 60, 42, 180, 0, 15, 77, 42, 182, 0, 83]
abbrev dktJ19_appendNull_0 : List UInt8 := dkwJ19_appendNull_0 ++ dktJ19_appendNull_1
theorem dksJ19_appendNull_0 : cJ19_appendNull.data.toList.drop 0 = dktJ19_appendNull_0 := by decide +kernel
theorem dksJ19_appendNull_1 : cJ19_appendNull.data.toList.drop 24 = dktJ19_appendNull_1 := dk_seg dksJ19_appendNull_0 24 rfl rfl
theorem dksJ19_appendNull_2 : cJ19_appendNull.data.toList.drop 48 = dktJ19_appendNull_2 := dk_seg dksJ19_appendNull_1 24 rfl rfl
theorem dksJ19_appendNull_3 : cJ19_appendNull.data.toList.drop 72 = dktJ19_appendNull_3 := dk_seg dksJ19_appendNull_2 24 rfl rfl
theorem dJ19_appendNull_0 : decode cJ19_appendNull 0 = .ok (.aload_n 0, 1) := dk_42 (dk_at dksJ19_appendNull_0 0 rfl rfl)
theorem dJ19_appendNull_1 : decode cJ19_appendNull 1 = .ok (.aload_n 0, 1) := dk_42 (dk_at dksJ19_appendNull_0 1 rfl rfl)
theorem dJ19_appendNull_2 : decode cJ19_appendNull 2 = .ok (.getfield 79, 3) := dk_180 0 79 (dk_at dksJ19_appendNull_0 2 rfl rfl)
theorem dJ19_appendNull_5 : decode cJ19_appendNull 5 = .ok (.iconst 4, 1) := dk_7 (dk_at dksJ19_appendNull_0 5 rfl rfl)
theorem dJ19_appendNull_6 : decode cJ19_appendNull 6 = .ok (.iadd, 1) := dk_96 (dk_at dksJ19_appendNull_0 6 rfl rfl)
theorem dJ19_appendNull_7 : decode cJ19_appendNull 7 = .ok (.invokevirtual 100, 3) := dk_182 0 100 (dk_at dksJ19_appendNull_0 7 rfl rfl)
theorem dJ19_appendNull_10 : decode cJ19_appendNull 10 = .ok (.aload_n 0, 1) := dk_42 (dk_at dksJ19_appendNull_0 10 rfl rfl)
theorem dJ19_appendNull_11 : decode cJ19_appendNull 11 = .ok (.getfield 79, 3) := dk_180 0 79 (dk_at dksJ19_appendNull_0 11 rfl rfl)
theorem dJ19_appendNull_14 : decode cJ19_appendNull 14 = .ok (.istore_n 1, 1) := dk_60 (dk_at dksJ19_appendNull_0 14 rfl rfl)
theorem dJ19_appendNull_15 : decode cJ19_appendNull 15 = .ok (.aload_n 0, 1) := dk_42 (dk_at dksJ19_appendNull_0 15 rfl rfl)
theorem dJ19_appendNull_16 : decode cJ19_appendNull 16 = .ok (.getfield 15, 3) := dk_180 0 15 (dk_at dksJ19_appendNull_0 16 rfl rfl)
theorem dJ19_appendNull_19 : decode cJ19_appendNull 19 = .ok (.astore_n 2, 1) := dk_77 (dk_at dksJ19_appendNull_0 19 rfl rfl)
theorem dJ19_appendNull_20 : decode cJ19_appendNull 20 = .ok (.aload_n 0, 1) := dk_42 (dk_at dksJ19_appendNull_0 20 rfl rfl)
theorem dJ19_appendNull_21 : decode cJ19_appendNull 21 = .ok (.invokevirtual 83, 3) := dk_182 0 83 (dk_at dksJ19_appendNull_0 21 rfl rfl)
theorem dJ19_appendNull_24 : decode cJ19_appendNull 24 = .ok (.ifCond .eq 38, 3) := dk_153 0 38 (dk_at dksJ19_appendNull_1 0 rfl rfl)
theorem dJ19_appendNull_27 : decode cJ19_appendNull 27 = .ok (.aload_n 2, 1) := dk_44 (dk_at dksJ19_appendNull_1 3 rfl rfl)
theorem dJ19_appendNull_28 : decode cJ19_appendNull 28 = .ok (.iload_n 1, 1) := dk_27 (dk_at dksJ19_appendNull_1 4 rfl rfl)
theorem dJ19_appendNull_29 : decode cJ19_appendNull 29 = .ok (.iinc 1 1, 3) := dk_132 1 1 (dk_at dksJ19_appendNull_1 5 rfl rfl)
theorem dJ19_appendNull_32 : decode cJ19_appendNull 32 = .ok (.bipush 110, 2) := dk_16 110 (dk_at dksJ19_appendNull_1 8 rfl rfl)
theorem dJ19_appendNull_34 : decode cJ19_appendNull 34 = .ok (.bastore, 1) := dk_84 (dk_at dksJ19_appendNull_1 10 rfl rfl)
theorem dJ19_appendNull_35 : decode cJ19_appendNull 35 = .ok (.aload_n 2, 1) := dk_44 (dk_at dksJ19_appendNull_1 11 rfl rfl)
theorem dJ19_appendNull_36 : decode cJ19_appendNull 36 = .ok (.iload_n 1, 1) := dk_27 (dk_at dksJ19_appendNull_1 12 rfl rfl)
theorem dJ19_appendNull_37 : decode cJ19_appendNull 37 = .ok (.iinc 1 1, 3) := dk_132 1 1 (dk_at dksJ19_appendNull_1 13 rfl rfl)
theorem dJ19_appendNull_40 : decode cJ19_appendNull 40 = .ok (.bipush 117, 2) := dk_16 117 (dk_at dksJ19_appendNull_1 16 rfl rfl)
theorem dJ19_appendNull_42 : decode cJ19_appendNull 42 = .ok (.bastore, 1) := dk_84 (dk_at dksJ19_appendNull_1 18 rfl rfl)
theorem dJ19_appendNull_43 : decode cJ19_appendNull 43 = .ok (.aload_n 2, 1) := dk_44 (dk_at dksJ19_appendNull_1 19 rfl rfl)
theorem dJ19_appendNull_44 : decode cJ19_appendNull 44 = .ok (.iload_n 1, 1) := dk_27 (dk_at dksJ19_appendNull_1 20 rfl rfl)
theorem dJ19_appendNull_45 : decode cJ19_appendNull 45 = .ok (.iinc 1 1, 3) := dk_132 1 1 (dk_at dksJ19_appendNull_1 21 rfl rfl)
theorem dJ19_appendNull_48 : decode cJ19_appendNull 48 = .ok (.bipush 108, 2) := dk_16 108 (dk_at dksJ19_appendNull_2 0 rfl rfl)
theorem dJ19_appendNull_50 : decode cJ19_appendNull 50 = .ok (.bastore, 1) := dk_84 (dk_at dksJ19_appendNull_2 2 rfl rfl)
theorem dJ19_appendNull_51 : decode cJ19_appendNull 51 = .ok (.aload_n 2, 1) := dk_44 (dk_at dksJ19_appendNull_2 3 rfl rfl)
theorem dJ19_appendNull_52 : decode cJ19_appendNull 52 = .ok (.iload_n 1, 1) := dk_27 (dk_at dksJ19_appendNull_2 4 rfl rfl)
theorem dJ19_appendNull_53 : decode cJ19_appendNull 53 = .ok (.iinc 1 1, 3) := dk_132 1 1 (dk_at dksJ19_appendNull_2 5 rfl rfl)
theorem dJ19_appendNull_56 : decode cJ19_appendNull 56 = .ok (.bipush 108, 2) := dk_16 108 (dk_at dksJ19_appendNull_2 8 rfl rfl)
theorem dJ19_appendNull_58 : decode cJ19_appendNull 58 = .ok (.bastore, 1) := dk_84 (dk_at dksJ19_appendNull_2 10 rfl rfl)
theorem dJ19_appendNull_59 : decode cJ19_appendNull 59 = .ok (.goto 17, 3) := dk_167 0 17 (dk_at dksJ19_appendNull_2 11 rfl rfl)
theorem dJ19_appendNull_62 : decode cJ19_appendNull 62 = .ok (.aload_n 2, 1) := dk_44 (dk_at dksJ19_appendNull_2 14 rfl rfl)
theorem dJ19_appendNull_63 : decode cJ19_appendNull 63 = .ok (.iload_n 1, 1) := dk_27 (dk_at dksJ19_appendNull_2 15 rfl rfl)
theorem dJ19_appendNull_64 : decode cJ19_appendNull 64 = .ok (.bipush 110, 2) := dk_16 110 (dk_at dksJ19_appendNull_2 16 rfl rfl)
theorem dJ19_appendNull_66 : decode cJ19_appendNull 66 = .ok (.bipush 117, 2) := dk_16 117 (dk_at dksJ19_appendNull_2 18 rfl rfl)
theorem dJ19_appendNull_68 : decode cJ19_appendNull 68 = .ok (.bipush 108, 2) := dk_16 108 (dk_at dksJ19_appendNull_2 20 rfl rfl)
theorem dJ19_appendNull_70 : decode cJ19_appendNull 70 = .ok (.bipush 108, 2) := dk_16 108 (dk_at dksJ19_appendNull_2 22 rfl rfl)
theorem dJ19_appendNull_72 : decode cJ19_appendNull 72 = .ok (.invokestatic 226, 3) := dk_184 0 226 (dk_at dksJ19_appendNull_3 0 rfl rfl)
theorem dJ19_appendNull_75 : decode cJ19_appendNull 75 = .ok (.istore_n 1, 1) := dk_60 (dk_at dksJ19_appendNull_3 3 rfl rfl)
theorem dJ19_appendNull_76 : decode cJ19_appendNull 76 = .ok (.aload_n 0, 1) := dk_42 (dk_at dksJ19_appendNull_3 4 rfl rfl)
theorem dJ19_appendNull_77 : decode cJ19_appendNull 77 = .ok (.iload_n 1, 1) := dk_27 (dk_at dksJ19_appendNull_3 5 rfl rfl)
theorem dJ19_appendNull_78 : decode cJ19_appendNull 78 = .ok (.putfield 79, 3) := dk_181 0 79 (dk_at dksJ19_appendNull_3 6 rfl rfl)
theorem dJ19_appendNull_81 : decode cJ19_appendNull 81 = .ok (.aload_n 0, 1) := dk_42 (dk_at dksJ19_appendNull_3 9 rfl rfl)
theorem dJ19_appendNull_82 : decode cJ19_appendNull 82 = .ok (.areturn, 1) := dk_176 (dk_at dksJ19_appendNull_3 10 rfl rfl)
abbrev cJ19_ensureCapacityInternal : ByteArray := prog_19_method_9_code
def yJ19_ensureCapacityInternal : MethodName := ⟨RJ19, "ensureCapacityInternal", "(I)V"⟩
def dkwJ19_ensureCapacityInternal_1 : List UInt8 := [182, 0, 104, 42, 180, 0, 22, 120, 184, 0, 108, 181, 0, 15, 177]
abbrev dktJ19_ensureCapacityInternal_1 : List UInt8 := dkwJ19_ensureCapacityInternal_1 ++ []
def dkwJ19_ensureCapacityInternal_0 : List UInt8 := [42, 180, 0, 15, 190, 42, 180, 0, 22, 122, 61, 27, 28, 100, 158, 0, 24, 42, 42, 180, 0, 15, 42, 27]
abbrev dktJ19_ensureCapacityInternal_0 : List UInt8 := dkwJ19_ensureCapacityInternal_0 ++ dktJ19_ensureCapacityInternal_1
theorem dksJ19_ensureCapacityInternal_0 : cJ19_ensureCapacityInternal.data.toList.drop 0 = dktJ19_ensureCapacityInternal_0 := by decide +kernel
theorem dksJ19_ensureCapacityInternal_1 : cJ19_ensureCapacityInternal.data.toList.drop 24 = dktJ19_ensureCapacityInternal_1 := dk_seg dksJ19_ensureCapacityInternal_0 24 rfl rfl
theorem dJ19_ensureCapacityInternal_0 : decode cJ19_ensureCapacityInternal 0 = .ok (.aload_n 0, 1) := dk_42 (dk_at dksJ19_ensureCapacityInternal_0 0 rfl rfl)
theorem dJ19_ensureCapacityInternal_1 : decode cJ19_ensureCapacityInternal 1 = .ok (.getfield 15, 3) := dk_180 0 15 (dk_at dksJ19_ensureCapacityInternal_0 1 rfl rfl)
theorem dJ19_ensureCapacityInternal_4 : decode cJ19_ensureCapacityInternal 4 = .ok (.arraylength, 1) := dk_190 (dk_at dksJ19_ensureCapacityInternal_0 4 rfl rfl)
theorem dJ19_ensureCapacityInternal_5 : decode cJ19_ensureCapacityInternal 5 = .ok (.aload_n 0, 1) := dk_42 (dk_at dksJ19_ensureCapacityInternal_0 5 rfl rfl)
theorem dJ19_ensureCapacityInternal_6 : decode cJ19_ensureCapacityInternal 6 = .ok (.getfield 22, 3) := dk_180 0 22 (dk_at dksJ19_ensureCapacityInternal_0 6 rfl rfl)
theorem dJ19_ensureCapacityInternal_9 : decode cJ19_ensureCapacityInternal 9 = .ok (.ishr, 1) := dk_122 (dk_at dksJ19_ensureCapacityInternal_0 9 rfl rfl)
theorem dJ19_ensureCapacityInternal_10 : decode cJ19_ensureCapacityInternal 10 = .ok (.istore_n 2, 1) := dk_61 (dk_at dksJ19_ensureCapacityInternal_0 10 rfl rfl)
theorem dJ19_ensureCapacityInternal_11 : decode cJ19_ensureCapacityInternal 11 = .ok (.iload_n 1, 1) := dk_27 (dk_at dksJ19_ensureCapacityInternal_0 11 rfl rfl)
theorem dJ19_ensureCapacityInternal_12 : decode cJ19_ensureCapacityInternal 12 = .ok (.iload_n 2, 1) := dk_28 (dk_at dksJ19_ensureCapacityInternal_0 12 rfl rfl)
theorem dJ19_ensureCapacityInternal_13 : decode cJ19_ensureCapacityInternal 13 = .ok (.isub, 1) := dk_100 (dk_at dksJ19_ensureCapacityInternal_0 13 rfl rfl)
theorem dJ19_ensureCapacityInternal_14 : decode cJ19_ensureCapacityInternal 14 = .ok (.ifCond .le 24, 3) := dk_158 0 24 (dk_at dksJ19_ensureCapacityInternal_0 14 rfl rfl)
theorem dJ19_ensureCapacityInternal_17 : decode cJ19_ensureCapacityInternal 17 = .ok (.aload_n 0, 1) := dk_42 (dk_at dksJ19_ensureCapacityInternal_0 17 rfl rfl)
theorem dJ19_ensureCapacityInternal_18 : decode cJ19_ensureCapacityInternal 18 = .ok (.aload_n 0, 1) := dk_42 (dk_at dksJ19_ensureCapacityInternal_0 18 rfl rfl)
theorem dJ19_ensureCapacityInternal_19 : decode cJ19_ensureCapacityInternal 19 = .ok (.getfield 15, 3) := dk_180 0 15 (dk_at dksJ19_ensureCapacityInternal_0 19 rfl rfl)
theorem dJ19_ensureCapacityInternal_22 : decode cJ19_ensureCapacityInternal 22 = .ok (.aload_n 0, 1) := dk_42 (dk_at dksJ19_ensureCapacityInternal_0 22 rfl rfl)
theorem dJ19_ensureCapacityInternal_23 : decode cJ19_ensureCapacityInternal 23 = .ok (.iload_n 1, 1) := dk_27 (dk_at dksJ19_ensureCapacityInternal_0 23 rfl rfl)
theorem dJ19_ensureCapacityInternal_24 : decode cJ19_ensureCapacityInternal 24 = .ok (.invokevirtual 104, 3) := dk_182 0 104 (dk_at dksJ19_ensureCapacityInternal_1 0 rfl rfl)
theorem dJ19_ensureCapacityInternal_27 : decode cJ19_ensureCapacityInternal 27 = .ok (.aload_n 0, 1) := dk_42 (dk_at dksJ19_ensureCapacityInternal_1 3 rfl rfl)
theorem dJ19_ensureCapacityInternal_28 : decode cJ19_ensureCapacityInternal 28 = .ok (.getfield 22, 3) := dk_180 0 22 (dk_at dksJ19_ensureCapacityInternal_1 4 rfl rfl)
theorem dJ19_ensureCapacityInternal_31 : decode cJ19_ensureCapacityInternal 31 = .ok (.ishl, 1) := dk_120 (dk_at dksJ19_ensureCapacityInternal_1 7 rfl rfl)
theorem dJ19_ensureCapacityInternal_32 : decode cJ19_ensureCapacityInternal 32 = .ok (.invokestatic 108, 3) := dk_184 0 108 (dk_at dksJ19_ensureCapacityInternal_1 8 rfl rfl)
theorem dJ19_ensureCapacityInternal_35 : decode cJ19_ensureCapacityInternal 35 = .ok (.putfield 15, 3) := dk_181 0 15 (dk_at dksJ19_ensureCapacityInternal_1 11 rfl rfl)
theorem dJ19_ensureCapacityInternal_38 : decode cJ19_ensureCapacityInternal 38 = .ok (.return_, 1) := dk_177 (dk_at dksJ19_ensureCapacityInternal_1 14 rfl rfl)
abbrev cJ19_newCapacity : ByteArray := prog_19_method_10_code
def yJ19_newCapacity : MethodName := ⟨RJ19, "newCapacity", "(I)I"⟩
def dkwJ19_newCapacity_2 : List UInt8 := [183, 0, 124, 191, 21, 5, 42, 180, 0, 22, 122, 172]
abbrev dktJ19_newCapacity_2 : List UInt8 := dkwJ19_newCapacity_2 ++ []
def dkwJ19_newCapacity_1 : List UInt8 := [180, 0, 22, 120, 96, 184, 0, 114, 54, 5, 21, 5, 18, 39, 160, 0, 13, 187, 0, 120, 89, 18, 122]
abbrev dktJ19_newCapacity_1 : List UInt8 := dkwJ19_newCapacity_1 ++ dktJ19_newCapacity_2
def dkwJ19_newCapacity_0 : List UInt8 := [42, 180, 0, 15, 190, 61, 27, 42, 180, 0, 22, 120, 62, 29, 28, 100, 54, 4, 28, 21, 4, 28, 5, 42]
abbrev dktJ19_newCapacity_0 : List UInt8 := dkwJ19_newCapacity_0 ++ dktJ19_newCapacity_1
theorem dksJ19_newCapacity_0 : cJ19_newCapacity.data.toList.drop 0 = dktJ19_newCapacity_0 := by decide +kernel
theorem dksJ19_newCapacity_1 : cJ19_newCapacity.data.toList.drop 24 = dktJ19_newCapacity_1 := dk_seg dksJ19_newCapacity_0 24 rfl rfl
theorem dksJ19_newCapacity_2 : cJ19_newCapacity.data.toList.drop 47 = dktJ19_newCapacity_2 := dk_seg dksJ19_newCapacity_1 23 rfl rfl
theorem dJ19_newCapacity_0 : decode cJ19_newCapacity 0 = .ok (.aload_n 0, 1) := dk_42 (dk_at dksJ19_newCapacity_0 0 rfl rfl)
theorem dJ19_newCapacity_1 : decode cJ19_newCapacity 1 = .ok (.getfield 15, 3) := dk_180 0 15 (dk_at dksJ19_newCapacity_0 1 rfl rfl)
theorem dJ19_newCapacity_4 : decode cJ19_newCapacity 4 = .ok (.arraylength, 1) := dk_190 (dk_at dksJ19_newCapacity_0 4 rfl rfl)
theorem dJ19_newCapacity_5 : decode cJ19_newCapacity 5 = .ok (.istore_n 2, 1) := dk_61 (dk_at dksJ19_newCapacity_0 5 rfl rfl)
theorem dJ19_newCapacity_6 : decode cJ19_newCapacity 6 = .ok (.iload_n 1, 1) := dk_27 (dk_at dksJ19_newCapacity_0 6 rfl rfl)
theorem dJ19_newCapacity_7 : decode cJ19_newCapacity 7 = .ok (.aload_n 0, 1) := dk_42 (dk_at dksJ19_newCapacity_0 7 rfl rfl)
theorem dJ19_newCapacity_8 : decode cJ19_newCapacity 8 = .ok (.getfield 22, 3) := dk_180 0 22 (dk_at dksJ19_newCapacity_0 8 rfl rfl)
theorem dJ19_newCapacity_11 : decode cJ19_newCapacity 11 = .ok (.ishl, 1) := dk_120 (dk_at dksJ19_newCapacity_0 11 rfl rfl)
theorem dJ19_newCapacity_12 : decode cJ19_newCapacity 12 = .ok (.istore_n 3, 1) := dk_62 (dk_at dksJ19_newCapacity_0 12 rfl rfl)
theorem dJ19_newCapacity_13 : decode cJ19_newCapacity 13 = .ok (.iload_n 3, 1) := dk_29 (dk_at dksJ19_newCapacity_0 13 rfl rfl)
theorem dJ19_newCapacity_14 : decode cJ19_newCapacity 14 = .ok (.iload_n 2, 1) := dk_28 (dk_at dksJ19_newCapacity_0 14 rfl rfl)
theorem dJ19_newCapacity_15 : decode cJ19_newCapacity 15 = .ok (.isub, 1) := dk_100 (dk_at dksJ19_newCapacity_0 15 rfl rfl)
theorem dJ19_newCapacity_16 : decode cJ19_newCapacity 16 = .ok (.istore 4, 2) := dk_54 4 (dk_at dksJ19_newCapacity_0 16 rfl rfl)
theorem dJ19_newCapacity_18 : decode cJ19_newCapacity 18 = .ok (.iload_n 2, 1) := dk_28 (dk_at dksJ19_newCapacity_0 18 rfl rfl)
theorem dJ19_newCapacity_19 : decode cJ19_newCapacity 19 = .ok (.iload 4, 2) := dk_21 4 (dk_at dksJ19_newCapacity_0 19 rfl rfl)
theorem dJ19_newCapacity_21 : decode cJ19_newCapacity 21 = .ok (.iload_n 2, 1) := dk_28 (dk_at dksJ19_newCapacity_0 21 rfl rfl)
theorem dJ19_newCapacity_22 : decode cJ19_newCapacity 22 = .ok (.iconst 2, 1) := dk_5 (dk_at dksJ19_newCapacity_0 22 rfl rfl)
theorem dJ19_newCapacity_23 : decode cJ19_newCapacity 23 = .ok (.aload_n 0, 1) := dk_42 (dk_at dksJ19_newCapacity_0 23 rfl rfl)
theorem dJ19_newCapacity_24 : decode cJ19_newCapacity 24 = .ok (.getfield 22, 3) := dk_180 0 22 (dk_at dksJ19_newCapacity_1 0 rfl rfl)
theorem dJ19_newCapacity_27 : decode cJ19_newCapacity 27 = .ok (.ishl, 1) := dk_120 (dk_at dksJ19_newCapacity_1 3 rfl rfl)
theorem dJ19_newCapacity_28 : decode cJ19_newCapacity 28 = .ok (.iadd, 1) := dk_96 (dk_at dksJ19_newCapacity_1 4 rfl rfl)
theorem dJ19_newCapacity_29 : decode cJ19_newCapacity 29 = .ok (.invokestatic 114, 3) := dk_184 0 114 (dk_at dksJ19_newCapacity_1 5 rfl rfl)
theorem dJ19_newCapacity_32 : decode cJ19_newCapacity 32 = .ok (.istore 5, 2) := dk_54 5 (dk_at dksJ19_newCapacity_1 8 rfl rfl)
theorem dJ19_newCapacity_34 : decode cJ19_newCapacity 34 = .ok (.iload 5, 2) := dk_21 5 (dk_at dksJ19_newCapacity_1 10 rfl rfl)
theorem dJ19_newCapacity_36 : decode cJ19_newCapacity 36 = .ok (.ldc 39, 2) := dk_18 39 (dk_at dksJ19_newCapacity_1 12 rfl rfl)
theorem dJ19_newCapacity_38 : decode cJ19_newCapacity 38 = .ok (.if_icmp .ne 13, 3) := dk_160 0 13 (dk_at dksJ19_newCapacity_1 14 rfl rfl)
theorem dJ19_newCapacity_41 : decode cJ19_newCapacity 41 = .ok (.new 120, 3) := dk_187 0 120 (dk_at dksJ19_newCapacity_1 17 rfl rfl)
theorem dJ19_newCapacity_44 : decode cJ19_newCapacity 44 = .ok (.dup, 1) := dk_89 (dk_at dksJ19_newCapacity_1 20 rfl rfl)
theorem dJ19_newCapacity_45 : decode cJ19_newCapacity 45 = .ok (.ldc 122, 2) := dk_18 122 (dk_at dksJ19_newCapacity_1 21 rfl rfl)
theorem dJ19_newCapacity_47 : decode cJ19_newCapacity 47 = .ok (.invokespecial 124, 3) := dk_183 0 124 (dk_at dksJ19_newCapacity_2 0 rfl rfl)
theorem dJ19_newCapacity_50 : decode cJ19_newCapacity 50 = .ok (.athrow, 1) := dk_191 (dk_at dksJ19_newCapacity_2 3 rfl rfl)
theorem dJ19_newCapacity_51 : decode cJ19_newCapacity 51 = .ok (.iload 5, 2) := dk_21 5 (dk_at dksJ19_newCapacity_2 4 rfl rfl)
theorem dJ19_newCapacity_53 : decode cJ19_newCapacity 53 = .ok (.aload_n 0, 1) := dk_42 (dk_at dksJ19_newCapacity_2 6 rfl rfl)
theorem dJ19_newCapacity_54 : decode cJ19_newCapacity 54 = .ok (.getfield 22, 3) := dk_180 0 22 (dk_at dksJ19_newCapacity_2 7 rfl rfl)
theorem dJ19_newCapacity_57 : decode cJ19_newCapacity 57 = .ok (.ishr, 1) := dk_122 (dk_at dksJ19_newCapacity_2 10 rfl rfl)
theorem dJ19_newCapacity_58 : decode cJ19_newCapacity 58 = .ok (.ireturn, 1) := dk_172 (dk_at dksJ19_newCapacity_2 11 rfl rfl)
abbrev cJ19_isLatin1 : ByteArray := prog_19_method_68_code
def yJ19_isLatin1 : MethodName := ⟨RJ19, "isLatin1", "()Z"⟩
def dkwJ19_isLatin1_0 : List UInt8 := [178, 0, 18, 153, 0, 14, 42, 180, 0, 22, 154, 0, 7, 4, 167, 0, 4, 3, 172]
abbrev dktJ19_isLatin1_0 : List UInt8 := dkwJ19_isLatin1_0 ++ []
theorem dksJ19_isLatin1_0 : cJ19_isLatin1.data.toList.drop 0 = dktJ19_isLatin1_0 := by decide +kernel
theorem dJ19_isLatin1_0 : decode cJ19_isLatin1 0 = .ok (.getstatic 18, 3) := dk_178 0 18 (dk_at dksJ19_isLatin1_0 0 rfl rfl)
theorem dJ19_isLatin1_3 : decode cJ19_isLatin1 3 = .ok (.ifCond .eq 14, 3) := dk_153 0 14 (dk_at dksJ19_isLatin1_0 3 rfl rfl)
theorem dJ19_isLatin1_6 : decode cJ19_isLatin1 6 = .ok (.aload_n 0, 1) := dk_42 (dk_at dksJ19_isLatin1_0 6 rfl rfl)
theorem dJ19_isLatin1_7 : decode cJ19_isLatin1 7 = .ok (.getfield 22, 3) := dk_180 0 22 (dk_at dksJ19_isLatin1_0 7 rfl rfl)
theorem dJ19_isLatin1_10 : decode cJ19_isLatin1 10 = .ok (.ifCond .ne 7, 3) := dk_154 0 7 (dk_at dksJ19_isLatin1_0 10 rfl rfl)
theorem dJ19_isLatin1_13 : decode cJ19_isLatin1 13 = .ok (.iconst 1, 1) := dk_4 (dk_at dksJ19_isLatin1_0 13 rfl rfl)
theorem dJ19_isLatin1_14 : decode cJ19_isLatin1 14 = .ok (.goto 4, 3) := dk_167 0 4 (dk_at dksJ19_isLatin1_0 14 rfl rfl)
theorem dJ19_isLatin1_17 : decode cJ19_isLatin1 17 = .ok (.iconst 0, 1) := dk_3 (dk_at dksJ19_isLatin1_0 17 rfl rfl)
theorem dJ19_isLatin1_18 : decode cJ19_isLatin1 18 = .ok (.ireturn, 1) := dk_172 (dk_at dksJ19_isLatin1_0 18 rfl rfl)
abbrev cJ19_putStringAt : ByteArray := prog_19_method_73_code
def yJ19_putStringAt : MethodName := ⟨RJ19, "putStringAt", "(ILjava/lang/String;)V"⟩
def dkwJ19_putStringAt_0 : List UInt8 := [42, 44, 182, 1, 141, 44, 42, 180, 0, 15, 27, 42, 180, 0, 22, 182, 1, 143, 177]
abbrev dktJ19_putStringAt_0 : List UInt8 := dkwJ19_putStringAt_0 ++ []
theorem dksJ19_putStringAt_0 : cJ19_putStringAt.data.toList.drop 0 = dktJ19_putStringAt_0 := by decide +kernel
theorem dJ19_putStringAt_0 : decode cJ19_putStringAt 0 = .ok (.aload_n 0, 1) := dk_42 (dk_at dksJ19_putStringAt_0 0 rfl rfl)
theorem dJ19_putStringAt_1 : decode cJ19_putStringAt 1 = .ok (.aload_n 2, 1) := dk_44 (dk_at dksJ19_putStringAt_0 1 rfl rfl)
theorem dJ19_putStringAt_2 : decode cJ19_putStringAt 2 = .ok (.invokevirtual 397, 3) := dk_182 1 141 (dk_at dksJ19_putStringAt_0 2 rfl rfl)
theorem dJ19_putStringAt_5 : decode cJ19_putStringAt 5 = .ok (.aload_n 2, 1) := dk_44 (dk_at dksJ19_putStringAt_0 5 rfl rfl)
theorem dJ19_putStringAt_6 : decode cJ19_putStringAt 6 = .ok (.aload_n 0, 1) := dk_42 (dk_at dksJ19_putStringAt_0 6 rfl rfl)
theorem dJ19_putStringAt_7 : decode cJ19_putStringAt 7 = .ok (.getfield 15, 3) := dk_180 0 15 (dk_at dksJ19_putStringAt_0 7 rfl rfl)
theorem dJ19_putStringAt_10 : decode cJ19_putStringAt 10 = .ok (.iload_n 1, 1) := dk_27 (dk_at dksJ19_putStringAt_0 10 rfl rfl)
theorem dJ19_putStringAt_11 : decode cJ19_putStringAt 11 = .ok (.aload_n 0, 1) := dk_42 (dk_at dksJ19_putStringAt_0 11 rfl rfl)
theorem dJ19_putStringAt_12 : decode cJ19_putStringAt 12 = .ok (.getfield 22, 3) := dk_180 0 22 (dk_at dksJ19_putStringAt_0 12 rfl rfl)
theorem dJ19_putStringAt_15 : decode cJ19_putStringAt 15 = .ok (.invokevirtual 399, 3) := dk_182 1 143 (dk_at dksJ19_putStringAt_0 15 rfl rfl)
theorem dJ19_putStringAt_18 : decode cJ19_putStringAt 18 = .ok (.return_, 1) := dk_177 (dk_at dksJ19_putStringAt_0 18 rfl rfl)
abbrev cJ19_inflateIfNeededFor : ByteArray := prog_19_method_71_code
def yJ19_inflateIfNeededFor : MethodName := ⟨RJ19, "inflateIfNeededFor", "(Ljava/lang/String;)V"⟩
def dkwJ19_inflateIfNeededFor_0 : List UInt8 := [178, 0, 18, 153, 0, 18, 42, 180, 0, 22, 43, 182, 0, 40, 159, 0, 7, 42, 182, 0, 195, 177]
abbrev dktJ19_inflateIfNeededFor_0 : List UInt8 := dkwJ19_inflateIfNeededFor_0 ++ []
theorem dksJ19_inflateIfNeededFor_0 : cJ19_inflateIfNeededFor.data.toList.drop 0 = dktJ19_inflateIfNeededFor_0 := by decide +kernel
theorem dJ19_inflateIfNeededFor_0 : decode cJ19_inflateIfNeededFor 0 = .ok (.getstatic 18, 3) := dk_178 0 18 (dk_at dksJ19_inflateIfNeededFor_0 0 rfl rfl)
theorem dJ19_inflateIfNeededFor_3 : decode cJ19_inflateIfNeededFor 3 = .ok (.ifCond .eq 18, 3) := dk_153 0 18 (dk_at dksJ19_inflateIfNeededFor_0 3 rfl rfl)
theorem dJ19_inflateIfNeededFor_6 : decode cJ19_inflateIfNeededFor 6 = .ok (.aload_n 0, 1) := dk_42 (dk_at dksJ19_inflateIfNeededFor_0 6 rfl rfl)
theorem dJ19_inflateIfNeededFor_7 : decode cJ19_inflateIfNeededFor 7 = .ok (.getfield 22, 3) := dk_180 0 22 (dk_at dksJ19_inflateIfNeededFor_0 7 rfl rfl)
theorem dJ19_inflateIfNeededFor_10 : decode cJ19_inflateIfNeededFor 10 = .ok (.aload_n 1, 1) := dk_43 (dk_at dksJ19_inflateIfNeededFor_0 10 rfl rfl)
theorem dJ19_inflateIfNeededFor_11 : decode cJ19_inflateIfNeededFor 11 = .ok (.invokevirtual 40, 3) := dk_182 0 40 (dk_at dksJ19_inflateIfNeededFor_0 11 rfl rfl)
theorem dJ19_inflateIfNeededFor_14 : decode cJ19_inflateIfNeededFor 14 = .ok (.if_icmp .eq 7, 3) := dk_159 0 7 (dk_at dksJ19_inflateIfNeededFor_0 14 rfl rfl)
theorem dJ19_inflateIfNeededFor_17 : decode cJ19_inflateIfNeededFor 17 = .ok (.aload_n 0, 1) := dk_42 (dk_at dksJ19_inflateIfNeededFor_0 17 rfl rfl)
theorem dJ19_inflateIfNeededFor_18 : decode cJ19_inflateIfNeededFor 18 = .ok (.invokevirtual 195, 3) := dk_182 0 195 (dk_at dksJ19_inflateIfNeededFor_0 18 rfl rfl)
theorem dJ19_inflateIfNeededFor_21 : decode cJ19_inflateIfNeededFor 21 = .ok (.return_, 1) := dk_177 (dk_at dksJ19_inflateIfNeededFor_0 21 rfl rfl)
abbrev cJ19_inflate : ByteArray := prog_19_method_11_code
def yJ19_inflate : MethodName := ⟨RJ19, "inflate", "()V"⟩
def dkwJ19_inflate_1 : List UInt8 := [42, 180, 0, 79, 184, 0, 125, 42, 43, 181, 0, 15, 42, 4, 181, 0, 22, 177]
abbrev dktJ19_inflate_1 : List UInt8 := dkwJ19_inflate_1 ++ []
def dkwJ19_inflate_0 : List UInt8 := [42, 182, 0, 83, 154, 0, 4, 177, 42, 180, 0, 15, 190, 184, 0, 26, 76, 42, 180, 0, 15, 3, 43, 3]
abbrev dktJ19_inflate_0 : List UInt8 := dkwJ19_inflate_0 ++ dktJ19_inflate_1
theorem dksJ19_inflate_0 : cJ19_inflate.data.toList.drop 0 = dktJ19_inflate_0 := by decide +kernel
theorem dksJ19_inflate_1 : cJ19_inflate.data.toList.drop 24 = dktJ19_inflate_1 := dk_seg dksJ19_inflate_0 24 rfl rfl
theorem dJ19_inflate_0 : decode cJ19_inflate 0 = .ok (.aload_n 0, 1) := dk_42 (dk_at dksJ19_inflate_0 0 rfl rfl)
theorem dJ19_inflate_1 : decode cJ19_inflate 1 = .ok (.invokevirtual 83, 3) := dk_182 0 83 (dk_at dksJ19_inflate_0 1 rfl rfl)
theorem dJ19_inflate_4 : decode cJ19_inflate 4 = .ok (.ifCond .ne 4, 3) := dk_154 0 4 (dk_at dksJ19_inflate_0 4 rfl rfl)
theorem dJ19_inflate_7 : decode cJ19_inflate 7 = .ok (.return_, 1) := dk_177 (dk_at dksJ19_inflate_0 7 rfl rfl)
theorem dJ19_inflate_8 : decode cJ19_inflate 8 = .ok (.aload_n 0, 1) := dk_42 (dk_at dksJ19_inflate_0 8 rfl rfl)
theorem dJ19_inflate_9 : decode cJ19_inflate 9 = .ok (.getfield 15, 3) := dk_180 0 15 (dk_at dksJ19_inflate_0 9 rfl rfl)
theorem dJ19_inflate_12 : decode cJ19_inflate 12 = .ok (.arraylength, 1) := dk_190 (dk_at dksJ19_inflate_0 12 rfl rfl)
theorem dJ19_inflate_13 : decode cJ19_inflate 13 = .ok (.invokestatic 26, 3) := dk_184 0 26 (dk_at dksJ19_inflate_0 13 rfl rfl)
theorem dJ19_inflate_16 : decode cJ19_inflate 16 = .ok (.astore_n 1, 1) := dk_76 (dk_at dksJ19_inflate_0 16 rfl rfl)
theorem dJ19_inflate_17 : decode cJ19_inflate 17 = .ok (.aload_n 0, 1) := dk_42 (dk_at dksJ19_inflate_0 17 rfl rfl)
theorem dJ19_inflate_18 : decode cJ19_inflate 18 = .ok (.getfield 15, 3) := dk_180 0 15 (dk_at dksJ19_inflate_0 18 rfl rfl)
theorem dJ19_inflate_21 : decode cJ19_inflate 21 = .ok (.iconst 0, 1) := dk_3 (dk_at dksJ19_inflate_0 21 rfl rfl)
theorem dJ19_inflate_22 : decode cJ19_inflate 22 = .ok (.aload_n 1, 1) := dk_43 (dk_at dksJ19_inflate_0 22 rfl rfl)
theorem dJ19_inflate_23 : decode cJ19_inflate 23 = .ok (.iconst 0, 1) := dk_3 (dk_at dksJ19_inflate_0 23 rfl rfl)
theorem dJ19_inflate_24 : decode cJ19_inflate 24 = .ok (.aload_n 0, 1) := dk_42 (dk_at dksJ19_inflate_1 0 rfl rfl)
theorem dJ19_inflate_25 : decode cJ19_inflate 25 = .ok (.getfield 79, 3) := dk_180 0 79 (dk_at dksJ19_inflate_1 1 rfl rfl)
theorem dJ19_inflate_28 : decode cJ19_inflate 28 = .ok (.invokestatic 125, 3) := dk_184 0 125 (dk_at dksJ19_inflate_1 4 rfl rfl)
theorem dJ19_inflate_31 : decode cJ19_inflate 31 = .ok (.aload_n 0, 1) := dk_42 (dk_at dksJ19_inflate_1 7 rfl rfl)
theorem dJ19_inflate_32 : decode cJ19_inflate 32 = .ok (.aload_n 1, 1) := dk_43 (dk_at dksJ19_inflate_1 8 rfl rfl)
theorem dJ19_inflate_33 : decode cJ19_inflate 33 = .ok (.putfield 15, 3) := dk_181 0 15 (dk_at dksJ19_inflate_1 9 rfl rfl)
theorem dJ19_inflate_36 : decode cJ19_inflate 36 = .ok (.aload_n 0, 1) := dk_42 (dk_at dksJ19_inflate_1 12 rfl rfl)
theorem dJ19_inflate_37 : decode cJ19_inflate 37 = .ok (.iconst 1, 1) := dk_4 (dk_at dksJ19_inflate_1 13 rfl rfl)
theorem dJ19_inflate_38 : decode cJ19_inflate 38 = .ok (.putfield 22, 3) := dk_181 0 22 (dk_at dksJ19_inflate_1 14 rfl rfl)
theorem dJ19_inflate_41 : decode cJ19_inflate 41 = .ok (.return_, 1) := dk_177 (dk_at dksJ19_inflate_1 17 rfl rfl)
abbrev cJ19_append_2 : ByteArray := prog_19_method_32_code
def yJ19_append_2 : MethodName := ⟨RJ19, "append", "(I)Ljava/lang/AbstractStringBuilder;"⟩
def dkwJ19_append_2_2 : List UInt8 := [42, 29, 181, 0, 79, 42, 176]
abbrev dktJ19_append_2_2 : List UInt8 := dkwJ19_append_2_2 ++ []
def dkwJ19_append_2_1 : List UInt8 := [27, 29, 42, 180, 0, 15, 184, 0, 248, 87, 167, 0, 14, 27, 28, 29, 42, 180, 0, 15, 184, 0, 251, 87]
abbrev dktJ19_append_2_1 : List UInt8 := dkwJ19_append_2_1 ++ dktJ19_append_2_2
def dkwJ19_append_2_0 : List UInt8 := [42, 180, 0, 79, 61, 28, 27, 184, 0, 245, 96, 62, 42, 29, 182, 0, 100, 42, 182, 0, 83, 153, 0, 16]
abbrev dktJ19_append_2_0 : List UInt8 := dkwJ19_append_2_0 ++ dktJ19_append_2_1
theorem dksJ19_append_2_0 : cJ19_append_2.data.toList.drop 0 = dktJ19_append_2_0 := by decide +kernel
theorem dksJ19_append_2_1 : cJ19_append_2.data.toList.drop 24 = dktJ19_append_2_1 := dk_seg dksJ19_append_2_0 24 rfl rfl
theorem dksJ19_append_2_2 : cJ19_append_2.data.toList.drop 48 = dktJ19_append_2_2 := dk_seg dksJ19_append_2_1 24 rfl rfl
theorem dJ19_append_2_0 : decode cJ19_append_2 0 = .ok (.aload_n 0, 1) := dk_42 (dk_at dksJ19_append_2_0 0 rfl rfl)
theorem dJ19_append_2_1 : decode cJ19_append_2 1 = .ok (.getfield 79, 3) := dk_180 0 79 (dk_at dksJ19_append_2_0 1 rfl rfl)
theorem dJ19_append_2_4 : decode cJ19_append_2 4 = .ok (.istore_n 2, 1) := dk_61 (dk_at dksJ19_append_2_0 4 rfl rfl)
theorem dJ19_append_2_5 : decode cJ19_append_2 5 = .ok (.iload_n 2, 1) := dk_28 (dk_at dksJ19_append_2_0 5 rfl rfl)
theorem dJ19_append_2_6 : decode cJ19_append_2 6 = .ok (.iload_n 1, 1) := dk_27 (dk_at dksJ19_append_2_0 6 rfl rfl)
theorem dJ19_append_2_7 : decode cJ19_append_2 7 = .ok (.invokestatic 245, 3) := dk_184 0 245 (dk_at dksJ19_append_2_0 7 rfl rfl)
theorem dJ19_append_2_10 : decode cJ19_append_2 10 = .ok (.iadd, 1) := dk_96 (dk_at dksJ19_append_2_0 10 rfl rfl)
theorem dJ19_append_2_11 : decode cJ19_append_2 11 = .ok (.istore_n 3, 1) := dk_62 (dk_at dksJ19_append_2_0 11 rfl rfl)
theorem dJ19_append_2_12 : decode cJ19_append_2 12 = .ok (.aload_n 0, 1) := dk_42 (dk_at dksJ19_append_2_0 12 rfl rfl)
theorem dJ19_append_2_13 : decode cJ19_append_2 13 = .ok (.iload_n 3, 1) := dk_29 (dk_at dksJ19_append_2_0 13 rfl rfl)
theorem dJ19_append_2_14 : decode cJ19_append_2 14 = .ok (.invokevirtual 100, 3) := dk_182 0 100 (dk_at dksJ19_append_2_0 14 rfl rfl)
theorem dJ19_append_2_17 : decode cJ19_append_2 17 = .ok (.aload_n 0, 1) := dk_42 (dk_at dksJ19_append_2_0 17 rfl rfl)
theorem dJ19_append_2_18 : decode cJ19_append_2 18 = .ok (.invokevirtual 83, 3) := dk_182 0 83 (dk_at dksJ19_append_2_0 18 rfl rfl)
theorem dJ19_append_2_21 : decode cJ19_append_2 21 = .ok (.ifCond .eq 16, 3) := dk_153 0 16 (dk_at dksJ19_append_2_0 21 rfl rfl)
theorem dJ19_append_2_24 : decode cJ19_append_2 24 = .ok (.iload_n 1, 1) := dk_27 (dk_at dksJ19_append_2_1 0 rfl rfl)
theorem dJ19_append_2_25 : decode cJ19_append_2 25 = .ok (.iload_n 3, 1) := dk_29 (dk_at dksJ19_append_2_1 1 rfl rfl)
theorem dJ19_append_2_26 : decode cJ19_append_2 26 = .ok (.aload_n 0, 1) := dk_42 (dk_at dksJ19_append_2_1 2 rfl rfl)
theorem dJ19_append_2_27 : decode cJ19_append_2 27 = .ok (.getfield 15, 3) := dk_180 0 15 (dk_at dksJ19_append_2_1 3 rfl rfl)
theorem dJ19_append_2_30 : decode cJ19_append_2 30 = .ok (.invokestatic 248, 3) := dk_184 0 248 (dk_at dksJ19_append_2_1 6 rfl rfl)
theorem dJ19_append_2_33 : decode cJ19_append_2 33 = .ok (.pop, 1) := dk_87 (dk_at dksJ19_append_2_1 9 rfl rfl)
theorem dJ19_append_2_34 : decode cJ19_append_2 34 = .ok (.goto 14, 3) := dk_167 0 14 (dk_at dksJ19_append_2_1 10 rfl rfl)
theorem dJ19_append_2_37 : decode cJ19_append_2 37 = .ok (.iload_n 1, 1) := dk_27 (dk_at dksJ19_append_2_1 13 rfl rfl)
theorem dJ19_append_2_38 : decode cJ19_append_2 38 = .ok (.iload_n 2, 1) := dk_28 (dk_at dksJ19_append_2_1 14 rfl rfl)
theorem dJ19_append_2_39 : decode cJ19_append_2 39 = .ok (.iload_n 3, 1) := dk_29 (dk_at dksJ19_append_2_1 15 rfl rfl)
theorem dJ19_append_2_40 : decode cJ19_append_2 40 = .ok (.aload_n 0, 1) := dk_42 (dk_at dksJ19_append_2_1 16 rfl rfl)
theorem dJ19_append_2_41 : decode cJ19_append_2 41 = .ok (.getfield 15, 3) := dk_180 0 15 (dk_at dksJ19_append_2_1 17 rfl rfl)
theorem dJ19_append_2_44 : decode cJ19_append_2 44 = .ok (.invokestatic 251, 3) := dk_184 0 251 (dk_at dksJ19_append_2_1 20 rfl rfl)
theorem dJ19_append_2_47 : decode cJ19_append_2 47 = .ok (.pop, 1) := dk_87 (dk_at dksJ19_append_2_1 23 rfl rfl)
theorem dJ19_append_2_48 : decode cJ19_append_2 48 = .ok (.aload_n 0, 1) := dk_42 (dk_at dksJ19_append_2_2 0 rfl rfl)
theorem dJ19_append_2_49 : decode cJ19_append_2 49 = .ok (.iload_n 3, 1) := dk_29 (dk_at dksJ19_append_2_2 1 rfl rfl)
theorem dJ19_append_2_50 : decode cJ19_append_2 50 = .ok (.putfield 79, 3) := dk_181 0 79 (dk_at dksJ19_append_2_2 2 rfl rfl)
theorem dJ19_append_2_53 : decode cJ19_append_2 53 = .ok (.aload_n 0, 1) := dk_42 (dk_at dksJ19_append_2_2 5 rfl rfl)
theorem dJ19_append_2_54 : decode cJ19_append_2 54 = .ok (.areturn, 1) := dk_176 (dk_at dksJ19_append_2_2 6 rfl rfl)
abbrev cJ19_getValue : ByteArray := prog_19_method_64_code
def yJ19_getValue : MethodName := ⟨RJ19, "getValue", "()[B"⟩
theorem dJ19_getValue_0 : decode cJ19_getValue 0 = .ok (.aload_n 0, 1) := by decide +kernel
theorem dJ19_getValue_1 : decode cJ19_getValue 1 = .ok (.getfield 15, 3) := by decide +kernel
theorem dJ19_getValue_4 : decode cJ19_getValue 4 = .ok (.areturn, 1) := by decide +kernel
abbrev cJ19_length : ByteArray := prog_19_method_6_code
def yJ19_length : MethodName := ⟨RJ19, "length", "()I"⟩
theorem dJ19_length_0 : decode cJ19_length 0 = .ok (.aload_n 0, 1) := by decide +kernel
theorem dJ19_length_1 : decode cJ19_length 1 = .ok (.getfield 79, 3) := by decide +kernel
theorem dJ19_length_4 : decode cJ19_length 4 = .ok (.ireturn, 1) := by decide +kernel
abbrev cJ19_append_3 : ByteArray := prog_19_method_31_code
def yJ19_append_3 : MethodName := ⟨RJ19, "append", "(C)Ljava/lang/AbstractStringBuilder;"⟩
def dkwJ19_append_3_3 : List UInt8 := [181, 0, 79, 27, 184, 0, 197, 42, 176]
abbrev dktJ19_append_3_3 : List UInt8 := dkwJ19_append_3_3 ++ []
def dkwJ19_append_3_2 : List UInt8 := [182, 0, 83, 153, 0, 7, 42, 182, 0, 195, 42, 180, 0, 15, 42, 89, 180, 0, 79, 90, 4, 96]
abbrev dktJ19_append_3_2 : List UInt8 := dkwJ19_append_3_2 ++ dktJ19_append_3_3
def dkwJ19_append_3_1 : List UInt8 := [42, 180, 0, 15, 42, 89, 180, 0, 79, 90, 4, 96, 181, 0, 79, 27, 145, 84, 167, 0, 33, 42]
abbrev dktJ19_append_3_1 : List UInt8 := dkwJ19_append_3_1 ++ dktJ19_append_3_2
def dkwJ19_append_3_0 : List UInt8 := [42, 42, 180, 0, 79, 4, 96, 182, 0, 100, 42, 182, 0, 83, 153, 0, 31, 27, 184, 0, 191, 153, 0, 24]
abbrev dktJ19_append_3_0 : List UInt8 := dkwJ19_append_3_0 ++ dktJ19_append_3_1
theorem dksJ19_append_3_0 : cJ19_append_3.data.toList.drop 0 = dktJ19_append_3_0 := by decide +kernel
theorem dksJ19_append_3_1 : cJ19_append_3.data.toList.drop 24 = dktJ19_append_3_1 := dk_seg dksJ19_append_3_0 24 rfl rfl
theorem dksJ19_append_3_2 : cJ19_append_3.data.toList.drop 46 = dktJ19_append_3_2 := dk_seg dksJ19_append_3_1 22 rfl rfl
theorem dksJ19_append_3_3 : cJ19_append_3.data.toList.drop 68 = dktJ19_append_3_3 := dk_seg dksJ19_append_3_2 22 rfl rfl
theorem dJ19_append_3_0 : decode cJ19_append_3 0 = .ok (.aload_n 0, 1) := dk_42 (dk_at dksJ19_append_3_0 0 rfl rfl)
theorem dJ19_append_3_1 : decode cJ19_append_3 1 = .ok (.aload_n 0, 1) := dk_42 (dk_at dksJ19_append_3_0 1 rfl rfl)
theorem dJ19_append_3_2 : decode cJ19_append_3 2 = .ok (.getfield 79, 3) := dk_180 0 79 (dk_at dksJ19_append_3_0 2 rfl rfl)
theorem dJ19_append_3_5 : decode cJ19_append_3 5 = .ok (.iconst 1, 1) := dk_4 (dk_at dksJ19_append_3_0 5 rfl rfl)
theorem dJ19_append_3_6 : decode cJ19_append_3 6 = .ok (.iadd, 1) := dk_96 (dk_at dksJ19_append_3_0 6 rfl rfl)
theorem dJ19_append_3_7 : decode cJ19_append_3 7 = .ok (.invokevirtual 100, 3) := dk_182 0 100 (dk_at dksJ19_append_3_0 7 rfl rfl)
theorem dJ19_append_3_10 : decode cJ19_append_3 10 = .ok (.aload_n 0, 1) := dk_42 (dk_at dksJ19_append_3_0 10 rfl rfl)
theorem dJ19_append_3_11 : decode cJ19_append_3 11 = .ok (.invokevirtual 83, 3) := dk_182 0 83 (dk_at dksJ19_append_3_0 11 rfl rfl)
theorem dJ19_append_3_14 : decode cJ19_append_3 14 = .ok (.ifCond .eq 31, 3) := dk_153 0 31 (dk_at dksJ19_append_3_0 14 rfl rfl)
theorem dJ19_append_3_17 : decode cJ19_append_3 17 = .ok (.iload_n 1, 1) := dk_27 (dk_at dksJ19_append_3_0 17 rfl rfl)
theorem dJ19_append_3_18 : decode cJ19_append_3 18 = .ok (.invokestatic 191, 3) := dk_184 0 191 (dk_at dksJ19_append_3_0 18 rfl rfl)
theorem dJ19_append_3_21 : decode cJ19_append_3 21 = .ok (.ifCond .eq 24, 3) := dk_153 0 24 (dk_at dksJ19_append_3_0 21 rfl rfl)
theorem dJ19_append_3_24 : decode cJ19_append_3 24 = .ok (.aload_n 0, 1) := dk_42 (dk_at dksJ19_append_3_1 0 rfl rfl)
theorem dJ19_append_3_25 : decode cJ19_append_3 25 = .ok (.getfield 15, 3) := dk_180 0 15 (dk_at dksJ19_append_3_1 1 rfl rfl)
theorem dJ19_append_3_28 : decode cJ19_append_3 28 = .ok (.aload_n 0, 1) := dk_42 (dk_at dksJ19_append_3_1 4 rfl rfl)
theorem dJ19_append_3_29 : decode cJ19_append_3 29 = .ok (.dup, 1) := dk_89 (dk_at dksJ19_append_3_1 5 rfl rfl)
theorem dJ19_append_3_30 : decode cJ19_append_3 30 = .ok (.getfield 79, 3) := dk_180 0 79 (dk_at dksJ19_append_3_1 6 rfl rfl)
theorem dJ19_append_3_33 : decode cJ19_append_3 33 = .ok (.dup_x1, 1) := dk_90 (dk_at dksJ19_append_3_1 9 rfl rfl)
theorem dJ19_append_3_34 : decode cJ19_append_3 34 = .ok (.iconst 1, 1) := dk_4 (dk_at dksJ19_append_3_1 10 rfl rfl)
theorem dJ19_append_3_35 : decode cJ19_append_3 35 = .ok (.iadd, 1) := dk_96 (dk_at dksJ19_append_3_1 11 rfl rfl)
theorem dJ19_append_3_36 : decode cJ19_append_3 36 = .ok (.putfield 79, 3) := dk_181 0 79 (dk_at dksJ19_append_3_1 12 rfl rfl)
theorem dJ19_append_3_39 : decode cJ19_append_3 39 = .ok (.iload_n 1, 1) := dk_27 (dk_at dksJ19_append_3_1 15 rfl rfl)
theorem dJ19_append_3_40 : decode cJ19_append_3 40 = .ok (.i2b, 1) := dk_145 (dk_at dksJ19_append_3_1 16 rfl rfl)
theorem dJ19_append_3_41 : decode cJ19_append_3 41 = .ok (.bastore, 1) := dk_84 (dk_at dksJ19_append_3_1 17 rfl rfl)
theorem dJ19_append_3_42 : decode cJ19_append_3 42 = .ok (.goto 33, 3) := dk_167 0 33 (dk_at dksJ19_append_3_1 18 rfl rfl)
theorem dJ19_append_3_45 : decode cJ19_append_3 45 = .ok (.aload_n 0, 1) := dk_42 (dk_at dksJ19_append_3_1 21 rfl rfl)
theorem dJ19_append_3_46 : decode cJ19_append_3 46 = .ok (.invokevirtual 83, 3) := dk_182 0 83 (dk_at dksJ19_append_3_2 0 rfl rfl)
theorem dJ19_append_3_49 : decode cJ19_append_3 49 = .ok (.ifCond .eq 7, 3) := dk_153 0 7 (dk_at dksJ19_append_3_2 3 rfl rfl)
theorem dJ19_append_3_52 : decode cJ19_append_3 52 = .ok (.aload_n 0, 1) := dk_42 (dk_at dksJ19_append_3_2 6 rfl rfl)
theorem dJ19_append_3_53 : decode cJ19_append_3 53 = .ok (.invokevirtual 195, 3) := dk_182 0 195 (dk_at dksJ19_append_3_2 7 rfl rfl)
theorem dJ19_append_3_56 : decode cJ19_append_3 56 = .ok (.aload_n 0, 1) := dk_42 (dk_at dksJ19_append_3_2 10 rfl rfl)
theorem dJ19_append_3_57 : decode cJ19_append_3 57 = .ok (.getfield 15, 3) := dk_180 0 15 (dk_at dksJ19_append_3_2 11 rfl rfl)
theorem dJ19_append_3_60 : decode cJ19_append_3 60 = .ok (.aload_n 0, 1) := dk_42 (dk_at dksJ19_append_3_2 14 rfl rfl)
theorem dJ19_append_3_61 : decode cJ19_append_3 61 = .ok (.dup, 1) := dk_89 (dk_at dksJ19_append_3_2 15 rfl rfl)
theorem dJ19_append_3_62 : decode cJ19_append_3 62 = .ok (.getfield 79, 3) := dk_180 0 79 (dk_at dksJ19_append_3_2 16 rfl rfl)
theorem dJ19_append_3_65 : decode cJ19_append_3 65 = .ok (.dup_x1, 1) := dk_90 (dk_at dksJ19_append_3_2 19 rfl rfl)
theorem dJ19_append_3_66 : decode cJ19_append_3 66 = .ok (.iconst 1, 1) := dk_4 (dk_at dksJ19_append_3_2 20 rfl rfl)
theorem dJ19_append_3_67 : decode cJ19_append_3 67 = .ok (.iadd, 1) := dk_96 (dk_at dksJ19_append_3_2 21 rfl rfl)
theorem dJ19_append_3_68 : decode cJ19_append_3 68 = .ok (.putfield 79, 3) := dk_181 0 79 (dk_at dksJ19_append_3_3 0 rfl rfl)
theorem dJ19_append_3_71 : decode cJ19_append_3 71 = .ok (.iload_n 1, 1) := dk_27 (dk_at dksJ19_append_3_3 3 rfl rfl)
theorem dJ19_append_3_72 : decode cJ19_append_3 72 = .ok (.invokestatic 197, 3) := dk_184 0 197 (dk_at dksJ19_append_3_3 4 rfl rfl)
theorem dJ19_append_3_75 : decode cJ19_append_3 75 = .ok (.aload_n 0, 1) := dk_42 (dk_at dksJ19_append_3_3 7 rfl rfl)
theorem dJ19_append_3_76 : decode cJ19_append_3 76 = .ok (.areturn, 1) := dk_176 (dk_at dksJ19_append_3_3 8 rfl rfl)
theorem q124 : (Jvm.Cond.initialized "java/lang/AbstractStringBuilder") ∈ lw_all := lw_g (lw_at lw_m1 28 rfl) rfl
theorem q755 : (Jvm.Cond.instanceMethod ({ cls := "java/lang/AbstractStringBuilder", name := "<init>", desc := "(I)V" } : Jvm.MethodName)) ∈ lw_all := lw_g (lw_at lw_m3 179 rfl) rfl
theorem q756 : (Jvm.Cond.code ({ cls := "java/lang/AbstractStringBuilder", name := "<init>", desc := "(I)V" } : Jvm.MethodName) prog_19_method_2_code (2 : Nat) (Option.none : Option Jvm.ClassFile.FieldType)) ∈ lw_all := lw_g (lw_at lw_m3 180 rfl) rfl
theorem q757 : (Jvm.Cond.methodLink "java/lang/AbstractStringBuilder" (3 : Nat) ({ cls := "java/lang/Object", name := "<init>", desc := "()V" } : Jvm.MethodName)) ∈ lw_all := lw_g (lw_at lw_m3 181 rfl) rfl
theorem q758 : (Jvm.Cond.fieldLink "java/lang/AbstractStringBuilder" (18 : Nat) "java/lang/String" "COMPACT_STRINGS" "Z") ∈ lw_all := lw_g (lw_at lw_m3 182 rfl) rfl
theorem q759 : (Jvm.Cond.methodLink "java/lang/AbstractStringBuilder" (26 : Nat) ({ cls := "java/lang/StringUTF16", name := "newBytesFor", desc := "(I)[B" } : Jvm.MethodName)) ∈ lw_all := lw_g (lw_at lw_m3 183 rfl) rfl
theorem q766 : (Jvm.Cond.fieldLink "java/lang/AbstractStringBuilder" (15 : Nat) "java/lang/AbstractStringBuilder" "value" "[B") ∈ lw_all := lw_g (lw_at lw_m3 190 rfl) rfl
theorem q767 : (Jvm.Cond.fieldLink "java/lang/AbstractStringBuilder" (22 : Nat) "java/lang/AbstractStringBuilder" "coder" "B") ∈ lw_all := lw_g (lw_at lw_m3 191 rfl) rfl
theorem q769 : (Jvm.Cond.fieldLink "java/lang/AbstractStringBuilder" (79 : Nat) "java/lang/AbstractStringBuilder" "count" "I") ∈ lw_all := lw_g (lw_at lw_m3 193 rfl) rfl
theorem q771 : (Jvm.Cond.soleField "java/lang/AbstractStringBuilder" "value") ∈ lw_all := lw_g (lw_at lw_m3 195 rfl) rfl
theorem q773 : (Jvm.Cond.soleField "java/lang/AbstractStringBuilder" "coder") ∈ lw_all := lw_g (lw_at lw_m3 197 rfl) rfl
theorem q775 : (Jvm.Cond.soleField "java/lang/AbstractStringBuilder" "maybeLatin1") ∈ lw_all := lw_g (lw_at lw_m3 199 rfl) rfl
theorem q777 : (Jvm.Cond.soleField "java/lang/AbstractStringBuilder" "count") ∈ lw_all := lw_g (lw_at lw_m3 201 rfl) rfl
theorem q786 : (Jvm.Cond.instanceMethod ({ cls := "java/lang/AbstractStringBuilder", name := "append", desc := "(Ljava/lang/String;)Ljava/lang/AbstractStringBuilder;" } : Jvm.MethodName)) ∈ lw_all := lw_g (lw_at lw_m3 210 rfl) rfl
theorem q787 : (Jvm.Cond.code ({ cls := "java/lang/AbstractStringBuilder", name := "append", desc := "(Ljava/lang/String;)Ljava/lang/AbstractStringBuilder;" } : Jvm.MethodName) prog_19_method_22_code (3 : Nat) (Option.some (Jvm.ClassFile.FieldType.object "java/lang/AbstractStringBuilder"))) ∈ lw_all := lw_g (lw_at lw_m3 211 rfl) rfl
theorem q788 : (Jvm.Cond.methodLink "java/lang/AbstractStringBuilder" (204 : Nat) ({ cls := "java/lang/AbstractStringBuilder", name := "appendNull", desc := "()Ljava/lang/AbstractStringBuilder;" } : Jvm.MethodName)) ∈ lw_all := lw_g (lw_at lw_m3 212 rfl) rfl
theorem q789 : (Jvm.Cond.privateMethod ({ cls := "java/lang/AbstractStringBuilder", name := "appendNull", desc := "()Ljava/lang/AbstractStringBuilder;" } : Jvm.MethodName)) ∈ lw_tbl := lw_at lw_m3 213 rfl
theorem q790 : (Jvm.Cond.instanceMethod ({ cls := "java/lang/AbstractStringBuilder", name := "appendNull", desc := "()Ljava/lang/AbstractStringBuilder;" } : Jvm.MethodName)) ∈ lw_all := lw_g (lw_at lw_m3 214 rfl) rfl
theorem q791 : (Jvm.Cond.code ({ cls := "java/lang/AbstractStringBuilder", name := "appendNull", desc := "()Ljava/lang/AbstractStringBuilder;" } : Jvm.MethodName) prog_19_method_26_code (3 : Nat) (Option.some (Jvm.ClassFile.FieldType.object "java/lang/AbstractStringBuilder"))) ∈ lw_all := lw_g (lw_at lw_m3 215 rfl) rfl
theorem q792 : (Jvm.Cond.methodLink "java/lang/AbstractStringBuilder" (100 : Nat) ({ cls := "java/lang/AbstractStringBuilder", name := "ensureCapacityInternal", desc := "(I)V" } : Jvm.MethodName)) ∈ lw_all := lw_g (lw_at lw_m3 216 rfl) rfl
theorem q793 : (Jvm.Cond.privateMethod ({ cls := "java/lang/AbstractStringBuilder", name := "ensureCapacityInternal", desc := "(I)V" } : Jvm.MethodName)) ∈ lw_tbl := lw_at lw_m3 217 rfl
theorem q794 : (Jvm.Cond.instanceMethod ({ cls := "java/lang/AbstractStringBuilder", name := "ensureCapacityInternal", desc := "(I)V" } : Jvm.MethodName)) ∈ lw_all := lw_g (lw_at lw_m3 218 rfl) rfl
theorem q795 : (Jvm.Cond.code ({ cls := "java/lang/AbstractStringBuilder", name := "ensureCapacityInternal", desc := "(I)V" } : Jvm.MethodName) prog_19_method_9_code (3 : Nat) (Option.none : Option Jvm.ClassFile.FieldType)) ∈ lw_all := lw_g (lw_at lw_m3 219 rfl) rfl
theorem q796 : (Jvm.Cond.methodLink "java/lang/AbstractStringBuilder" (104 : Nat) ({ cls := "java/lang/AbstractStringBuilder", name := "newCapacity", desc := "(I)I" } : Jvm.MethodName)) ∈ lw_all := lw_g (lw_at lw_m3 220 rfl) rfl
theorem q797 : (Jvm.Cond.privateMethod ({ cls := "java/lang/AbstractStringBuilder", name := "newCapacity", desc := "(I)I" } : Jvm.MethodName)) ∈ lw_tbl := lw_at lw_m3 221 rfl
theorem q798 : (Jvm.Cond.instanceMethod ({ cls := "java/lang/AbstractStringBuilder", name := "newCapacity", desc := "(I)I" } : Jvm.MethodName)) ∈ lw_all := lw_g (lw_at lw_m3 222 rfl) rfl
theorem q799 : (Jvm.Cond.code ({ cls := "java/lang/AbstractStringBuilder", name := "newCapacity", desc := "(I)I" } : Jvm.MethodName) prog_19_method_10_code (6 : Nat) (Option.some Jvm.ClassFile.FieldType.int)) ∈ lw_all := lw_g (lw_at lw_m3 223 rfl) rfl
theorem q800 : (Jvm.Cond.methodLink "java/lang/AbstractStringBuilder" (114 : Nat) ({ cls := "jdk/internal/util/ArraysSupport", name := "newLength", desc := "(III)I" } : Jvm.MethodName)) ∈ lw_all := lw_g (lw_at lw_m3 224 rfl) rfl
theorem q801 : (Jvm.Cond.constant "java/lang/AbstractStringBuilder" (39 : Nat) (2147483647 : Int32)) ∈ lw_all := lw_g (lw_at lw_m3 225 rfl) rfl
theorem q802 : (Jvm.Cond.methodLink "java/lang/AbstractStringBuilder" (108 : Nat) ({ cls := "java/util/Arrays", name := "copyOf", desc := "([BI)[B" } : Jvm.MethodName)) ∈ lw_all := lw_g (lw_at lw_m3 226 rfl) rfl
theorem q812 : (Jvm.Cond.methodLink "java/lang/AbstractStringBuilder" (83 : Nat) ({ cls := "java/lang/AbstractStringBuilder", name := "isLatin1", desc := "()Z" } : Jvm.MethodName)) ∈ lw_all := lw_g (lw_at lw_m3 236 rfl) rfl
theorem q813 : (Jvm.Cond.instanceMethod ({ cls := "java/lang/AbstractStringBuilder", name := "isLatin1", desc := "()Z" } : Jvm.MethodName)) ∈ lw_all := lw_g (lw_at lw_m3 237 rfl) rfl
theorem q814 : (Jvm.Cond.sameMethod "java/lang/AbstractStringBuilder" "java/lang/AbstractStringBuilder" "isLatin1" "()Z") ∈ lw_all := lw_g (lw_at lw_m3 238 rfl) rfl
theorem q816 : (Jvm.Cond.code ({ cls := "java/lang/AbstractStringBuilder", name := "isLatin1", desc := "()Z" } : Jvm.MethodName) prog_19_method_68_code (1 : Nat) (Option.some Jvm.ClassFile.FieldType.boolean)) ∈ lw_all := lw_g (lw_at lw_m4 0 rfl) rfl
theorem q817 : (Jvm.Cond.methodLink "java/lang/AbstractStringBuilder" (226 : Nat) ({ cls := "java/lang/StringUTF16", name := "putCharsAt", desc := "([BICCCC)I" } : Jvm.MethodName)) ∈ lw_all := lw_g (lw_at lw_m4 1 rfl) rfl
theorem q832 : (Jvm.Cond.methodLink "java/lang/AbstractStringBuilder" (32 : Nat) ({ cls := "java/lang/String", name := "length", desc := "()I" } : Jvm.MethodName)) ∈ lw_all := lw_g (lw_at lw_m4 16 rfl) rfl
theorem q833 : (Jvm.Cond.methodLink "java/lang/AbstractStringBuilder" (208 : Nat) ({ cls := "java/lang/AbstractStringBuilder", name := "putStringAt", desc := "(ILjava/lang/String;)V" } : Jvm.MethodName)) ∈ lw_all := lw_g (lw_at lw_m4 17 rfl) rfl
theorem q834 : (Jvm.Cond.privateMethod ({ cls := "java/lang/AbstractStringBuilder", name := "putStringAt", desc := "(ILjava/lang/String;)V" } : Jvm.MethodName)) ∈ lw_tbl := lw_at lw_m4 18 rfl
theorem q835 : (Jvm.Cond.instanceMethod ({ cls := "java/lang/AbstractStringBuilder", name := "putStringAt", desc := "(ILjava/lang/String;)V" } : Jvm.MethodName)) ∈ lw_all := lw_g (lw_at lw_m4 19 rfl) rfl
theorem q836 : (Jvm.Cond.code ({ cls := "java/lang/AbstractStringBuilder", name := "putStringAt", desc := "(ILjava/lang/String;)V" } : Jvm.MethodName) prog_19_method_73_code (3 : Nat) (Option.none : Option Jvm.ClassFile.FieldType)) ∈ lw_all := lw_g (lw_at lw_m4 20 rfl) rfl
theorem q837 : (Jvm.Cond.methodLink "java/lang/AbstractStringBuilder" (397 : Nat) ({ cls := "java/lang/AbstractStringBuilder", name := "inflateIfNeededFor", desc := "(Ljava/lang/String;)V" } : Jvm.MethodName)) ∈ lw_all := lw_g (lw_at lw_m4 21 rfl) rfl
theorem q838 : (Jvm.Cond.privateMethod ({ cls := "java/lang/AbstractStringBuilder", name := "inflateIfNeededFor", desc := "(Ljava/lang/String;)V" } : Jvm.MethodName)) ∈ lw_tbl := lw_at lw_m4 22 rfl
theorem q839 : (Jvm.Cond.instanceMethod ({ cls := "java/lang/AbstractStringBuilder", name := "inflateIfNeededFor", desc := "(Ljava/lang/String;)V" } : Jvm.MethodName)) ∈ lw_all := lw_g (lw_at lw_m4 23 rfl) rfl
theorem q840 : (Jvm.Cond.code ({ cls := "java/lang/AbstractStringBuilder", name := "inflateIfNeededFor", desc := "(Ljava/lang/String;)V" } : Jvm.MethodName) prog_19_method_71_code (2 : Nat) (Option.none : Option Jvm.ClassFile.FieldType)) ∈ lw_all := lw_g (lw_at lw_m4 24 rfl) rfl
theorem q841 : (Jvm.Cond.methodLink "java/lang/AbstractStringBuilder" (40 : Nat) ({ cls := "java/lang/String", name := "coder", desc := "()B" } : Jvm.MethodName)) ∈ lw_all := lw_g (lw_at lw_m4 25 rfl) rfl
theorem q842 : (Jvm.Cond.methodLink "java/lang/AbstractStringBuilder" (195 : Nat) ({ cls := "java/lang/AbstractStringBuilder", name := "inflate", desc := "()V" } : Jvm.MethodName)) ∈ lw_all := lw_g (lw_at lw_m4 26 rfl) rfl
theorem q843 : (Jvm.Cond.privateMethod ({ cls := "java/lang/AbstractStringBuilder", name := "inflate", desc := "()V" } : Jvm.MethodName)) ∈ lw_tbl := lw_at lw_m4 27 rfl
theorem q844 : (Jvm.Cond.instanceMethod ({ cls := "java/lang/AbstractStringBuilder", name := "inflate", desc := "()V" } : Jvm.MethodName)) ∈ lw_all := lw_g (lw_at lw_m4 28 rfl) rfl
theorem q845 : (Jvm.Cond.code ({ cls := "java/lang/AbstractStringBuilder", name := "inflate", desc := "()V" } : Jvm.MethodName) prog_19_method_11_code (2 : Nat) (Option.none : Option Jvm.ClassFile.FieldType)) ∈ lw_all := lw_g (lw_at lw_m4 29 rfl) rfl
theorem q846 : (Jvm.Cond.methodLink "java/lang/AbstractStringBuilder" (125 : Nat) ({ cls := "java/lang/StringLatin1", name := "inflate", desc := "([BI[BII)V" } : Jvm.MethodName)) ∈ lw_all := lw_g (lw_at lw_m4 30 rfl) rfl
theorem q861 : (Jvm.Cond.methodLink "java/lang/AbstractStringBuilder" (399 : Nat) ({ cls := "java/lang/String", name := "getBytes", desc := "([BIB)V" } : Jvm.MethodName)) ∈ lw_all := lw_g (lw_at lw_m4 45 rfl) rfl
theorem q872 : (Jvm.Cond.instanceMethod ({ cls := "java/lang/AbstractStringBuilder", name := "append", desc := "(I)Ljava/lang/AbstractStringBuilder;" } : Jvm.MethodName)) ∈ lw_all := lw_g (lw_at lw_m4 56 rfl) rfl
theorem q873 : (Jvm.Cond.code ({ cls := "java/lang/AbstractStringBuilder", name := "append", desc := "(I)Ljava/lang/AbstractStringBuilder;" } : Jvm.MethodName) prog_19_method_32_code (4 : Nat) (Option.some (Jvm.ClassFile.FieldType.object "java/lang/AbstractStringBuilder"))) ∈ lw_all := lw_g (lw_at lw_m4 57 rfl) rfl
theorem q874 : (Jvm.Cond.methodLink "java/lang/AbstractStringBuilder" (245 : Nat) ({ cls := "java/lang/Integer", name := "stringSize", desc := "(I)I" } : Jvm.MethodName)) ∈ lw_all := lw_g (lw_at lw_m4 58 rfl) rfl
theorem q877 : (Jvm.Cond.methodLink "java/lang/AbstractStringBuilder" (248 : Nat) ({ cls := "java/lang/Integer", name := "getChars", desc := "(II[B)I" } : Jvm.MethodName)) ∈ lw_all := lw_g (lw_at lw_m4 61 rfl) rfl
theorem q884 : (Jvm.Cond.methodLink "java/lang/AbstractStringBuilder" (251 : Nat) ({ cls := "java/lang/StringUTF16", name := "getChars", desc := "(III[B)I" } : Jvm.MethodName)) ∈ lw_all := lw_g (lw_at lw_m4 68 rfl) rfl
theorem q907 : (Jvm.Cond.instanceMethod ({ cls := "java/lang/AbstractStringBuilder", name := "getValue", desc := "()[B" } : Jvm.MethodName)) ∈ lw_all := lw_g (lw_at lw_m4 91 rfl) rfl
theorem q908 : (Jvm.Cond.sameMethod "java/lang/AbstractStringBuilder" "java/lang/AbstractStringBuilder" "getValue" "()[B") ∈ lw_all := lw_g (lw_at lw_m4 92 rfl) rfl
theorem q910 : (Jvm.Cond.code ({ cls := "java/lang/AbstractStringBuilder", name := "getValue", desc := "()[B" } : Jvm.MethodName) prog_19_method_64_code (1 : Nat) (Option.some (Jvm.ClassFile.FieldType.array Jvm.ClassFile.FieldType.byte))) ∈ lw_all := lw_g (lw_at lw_m4 94 rfl) rfl
theorem q912 : (Jvm.Cond.instanceMethod ({ cls := "java/lang/AbstractStringBuilder", name := "length", desc := "()I" } : Jvm.MethodName)) ∈ lw_all := lw_g (lw_at lw_m4 96 rfl) rfl
theorem q913 : (Jvm.Cond.sameMethod "java/lang/AbstractStringBuilder" "java/lang/AbstractStringBuilder" "length" "()I") ∈ lw_all := lw_g (lw_at lw_m4 97 rfl) rfl
theorem q918 : (Jvm.Cond.code ({ cls := "java/lang/AbstractStringBuilder", name := "length", desc := "()I" } : Jvm.MethodName) prog_19_method_6_code (1 : Nat) (Option.some Jvm.ClassFile.FieldType.int)) ∈ lw_all := lw_g (lw_at lw_m4 102 rfl) rfl
theorem q1561 : (Jvm.Cond.instanceMethod ({ cls := "java/lang/AbstractStringBuilder", name := "append", desc := "(C)Ljava/lang/AbstractStringBuilder;" } : Jvm.MethodName)) ∈ lw_all := lw_g (lw_at lw_m7 25 rfl) rfl
theorem q1562 : (Jvm.Cond.code ({ cls := "java/lang/AbstractStringBuilder", name := "append", desc := "(C)Ljava/lang/AbstractStringBuilder;" } : Jvm.MethodName) prog_19_method_31_code (2 : Nat) (Option.some (Jvm.ClassFile.FieldType.object "java/lang/AbstractStringBuilder"))) ∈ lw_all := lw_g (lw_at lw_m7 26 rfl) rfl
theorem q1563 : (Jvm.Cond.methodLink "java/lang/AbstractStringBuilder" (191 : Nat) ({ cls := "java/lang/StringLatin1", name := "canEncode", desc := "(C)Z" } : Jvm.MethodName)) ∈ lw_all := lw_g (lw_at lw_m7 27 rfl) rfl
theorem q1566 : (Jvm.Cond.methodLink "java/lang/AbstractStringBuilder" (197 : Nat) ({ cls := "java/lang/StringUTF16", name := "putCharSB", desc := "([BII)V" } : Jvm.MethodName)) ∈ lw_all := lw_g (lw_at lw_m7 30 rfl) rfl
theorem q2309 : (Jvm.Cond.sameMethod "java/lang/AbstractStringBuilder" "java/lang/AbstractStringBuilder" "append" "(Ljava/lang/String;)Ljava/lang/AbstractStringBuilder;") ∈ lw_all := lw_g (lw_at lw_m10 53 rfl) rfl
theorem q2310 : (Jvm.Cond.sameMethod "java/lang/AbstractStringBuilder" "java/lang/AbstractStringBuilder" "appendNull" "()Ljava/lang/AbstractStringBuilder;") ∈ lw_all := lw_g (lw_at lw_m10 54 rfl) rfl
theorem q2311 : (Jvm.Cond.sameMethod "java/lang/AbstractStringBuilder" "java/lang/AbstractStringBuilder" "ensureCapacityInternal" "(I)V") ∈ lw_all := lw_g (lw_at lw_m10 55 rfl) rfl
theorem q2312 : (Jvm.Cond.sameMethod "java/lang/AbstractStringBuilder" "java/lang/AbstractStringBuilder" "newCapacity" "(I)I") ∈ lw_all := lw_g (lw_at lw_m10 56 rfl) rfl
theorem q2313 : (Jvm.Cond.sameMethod "java/lang/AbstractStringBuilder" "java/lang/AbstractStringBuilder" "putStringAt" "(ILjava/lang/String;)V") ∈ lw_all := lw_g (lw_at lw_m10 57 rfl) rfl
theorem q2314 : (Jvm.Cond.sameMethod "java/lang/AbstractStringBuilder" "java/lang/AbstractStringBuilder" "inflateIfNeededFor" "(Ljava/lang/String;)V") ∈ lw_all := lw_g (lw_at lw_m10 58 rfl) rfl
theorem q2315 : (Jvm.Cond.sameMethod "java/lang/AbstractStringBuilder" "java/lang/AbstractStringBuilder" "inflate" "()V") ∈ lw_all := lw_g (lw_at lw_m10 59 rfl) rfl
theorem q2316 : (Jvm.Cond.sameMethod "java/lang/AbstractStringBuilder" "java/lang/AbstractStringBuilder" "append" "(I)Ljava/lang/AbstractStringBuilder;") ∈ lw_all := lw_g (lw_at lw_m10 60 rfl) rfl
theorem q2317 : (Jvm.Cond.sameMethod "java/lang/AbstractStringBuilder" "java/lang/AbstractStringBuilder" "append" "(C)Ljava/lang/AbstractStringBuilder;") ∈ lw_all := lw_g (lw_at lw_m10 61 rfl) rfl
/-! java/lang/StringBuilder -/
set_option maxRecDepth 100000
def RJ20 : String := "java/lang/StringBuilder"
def TJ20 : u_T := fun k => match k with
  | 0 => ("java/lang/AbstractStringBuilder", "value", "[B", false)
  | 1 => ("java/lang/AbstractStringBuilder", "coder", "B", false)
  | 2 => ("java/lang/AbstractStringBuilder", "maybeLatin1", "Z", false)
  | _ => ("java/lang/AbstractStringBuilder", "count", "I", false)
def tyJ20 : Nat → FieldType := fun k => match k with
  | 0 => .array .byte
  | 1 => .byte
  | 2 => .boolean
  | _ => .int
abbrev wsJ200 : List Cond := u_ws RJ20 TJ20 4
theorem nmJ20 : ∀ a, a < 4 → ∀ b, b < 4 → a ≠ b → (TJ20 a).2.1 ≠ (TJ20 b).2.1 := by decide +kernel
theorem tyJ20_ok : ∀ k, k < 4 → parseFieldDescriptor (TJ20 k).2.2.1 = some (tyJ20 k) := by decide +kernel
abbrev cJ20_init : ByteArray := prog_37_method_1_code
def yJ20_init : MethodName := ⟨RJ20, "<init>", "()V"⟩
def dkwJ20_init_0 : List UInt8 := [42, 16, 16, 183, 0, 1, 177]
abbrev dktJ20_init_0 : List UInt8 := dkwJ20_init_0 ++ []
theorem dksJ20_init_0 : cJ20_init.data.toList.drop 0 = dktJ20_init_0 := by decide +kernel
theorem dJ20_init_0 : decode cJ20_init 0 = .ok (.aload_n 0, 1) := dk_42 (dk_at dksJ20_init_0 0 rfl rfl)
theorem dJ20_init_1 : decode cJ20_init 1 = .ok (.bipush 16, 2) := dk_16 16 (dk_at dksJ20_init_0 1 rfl rfl)
theorem dJ20_init_3 : decode cJ20_init 3 = .ok (.invokespecial 1, 3) := dk_183 0 1 (dk_at dksJ20_init_0 3 rfl rfl)
theorem dJ20_init_6 : decode cJ20_init 6 = .ok (.return_, 1) := dk_177 (dk_at dksJ20_init_0 6 rfl rfl)
abbrev cJ20_append : ByteArray := prog_37_method_7_code
def yJ20_append : MethodName := ⟨RJ20, "append", "(Ljava/lang/String;)Ljava/lang/StringBuilder;"⟩
def dkwJ20_append_0 : List UInt8 := [42, 43, 183, 0, 29, 87, 42, 176]
abbrev dktJ20_append_0 : List UInt8 := dkwJ20_append_0 ++ []
theorem dksJ20_append_0 : cJ20_append.data.toList.drop 0 = dktJ20_append_0 := by decide +kernel
theorem dJ20_append_0 : decode cJ20_append 0 = .ok (.aload_n 0, 1) := dk_42 (dk_at dksJ20_append_0 0 rfl rfl)
theorem dJ20_append_1 : decode cJ20_append 1 = .ok (.aload_n 1, 1) := dk_43 (dk_at dksJ20_append_0 1 rfl rfl)
theorem dJ20_append_2 : decode cJ20_append 2 = .ok (.invokespecial 29, 3) := dk_183 0 29 (dk_at dksJ20_append_0 2 rfl rfl)
theorem dJ20_append_5 : decode cJ20_append 5 = .ok (.pop, 1) := dk_87 (dk_at dksJ20_append_0 5 rfl rfl)
theorem dJ20_append_6 : decode cJ20_append 6 = .ok (.aload_n 0, 1) := dk_42 (dk_at dksJ20_append_0 6 rfl rfl)
theorem dJ20_append_7 : decode cJ20_append 7 = .ok (.areturn, 1) := dk_176 (dk_at dksJ20_append_0 7 rfl rfl)
abbrev cJ20_append_2 : ByteArray := prog_37_method_15_code
def yJ20_append_2 : MethodName := ⟨RJ20, "append", "(I)Ljava/lang/StringBuilder;"⟩
def dkwJ20_append_2_0 : List UInt8 := [42, 27, 183, 0, 53, 87, 42, 176]
abbrev dktJ20_append_2_0 : List UInt8 := dkwJ20_append_2_0 ++ []
theorem dksJ20_append_2_0 : cJ20_append_2.data.toList.drop 0 = dktJ20_append_2_0 := by decide +kernel
theorem dJ20_append_2_0 : decode cJ20_append_2 0 = .ok (.aload_n 0, 1) := dk_42 (dk_at dksJ20_append_2_0 0 rfl rfl)
theorem dJ20_append_2_1 : decode cJ20_append_2 1 = .ok (.iload_n 1, 1) := dk_27 (dk_at dksJ20_append_2_0 1 rfl rfl)
theorem dJ20_append_2_2 : decode cJ20_append_2 2 = .ok (.invokespecial 53, 3) := dk_183 0 53 (dk_at dksJ20_append_2_0 2 rfl rfl)
theorem dJ20_append_2_5 : decode cJ20_append_2 5 = .ok (.pop, 1) := dk_87 (dk_at dksJ20_append_2_0 5 rfl rfl)
theorem dJ20_append_2_6 : decode cJ20_append_2 6 = .ok (.aload_n 0, 1) := dk_42 (dk_at dksJ20_append_2_0 6 rfl rfl)
theorem dJ20_append_2_7 : decode cJ20_append_2 7 = .ok (.areturn, 1) := dk_176 (dk_at dksJ20_append_2_0 7 rfl rfl)
abbrev cJ20_toString : ByteArray := prog_37_method_42_code
def yJ20_toString : MethodName := ⟨RJ20, "toString", "()Ljava/lang/String;"⟩
def dkwJ20_toString_0 : List UInt8 := [187, 0, 18, 89, 42, 183, 0, 137, 176]
abbrev dktJ20_toString_0 : List UInt8 := dkwJ20_toString_0 ++ []
theorem dksJ20_toString_0 : cJ20_toString.data.toList.drop 0 = dktJ20_toString_0 := by decide +kernel
theorem dJ20_toString_0 : decode cJ20_toString 0 = .ok (.new 18, 3) := dk_187 0 18 (dk_at dksJ20_toString_0 0 rfl rfl)
theorem dJ20_toString_3 : decode cJ20_toString 3 = .ok (.dup, 1) := dk_89 (dk_at dksJ20_toString_0 3 rfl rfl)
theorem dJ20_toString_4 : decode cJ20_toString 4 = .ok (.aload_n 0, 1) := dk_42 (dk_at dksJ20_toString_0 4 rfl rfl)
theorem dJ20_toString_5 : decode cJ20_toString 5 = .ok (.invokespecial 137, 3) := dk_183 0 137 (dk_at dksJ20_toString_0 5 rfl rfl)
theorem dJ20_toString_8 : decode cJ20_toString 8 = .ok (.areturn, 1) := dk_176 (dk_at dksJ20_toString_0 8 rfl rfl)
abbrev cJ20_length : ByteArray := prog_37_method_93_code
def yJ20_length : MethodName := ⟨RJ20, "length", "()I"⟩
theorem dJ20_length_0 : decode cJ20_length 0 = .ok (.aload_n 0, 1) := by decide +kernel
theorem dJ20_length_1 : decode cJ20_length 1 = .ok (.invokespecial 343, 3) := by decide +kernel
theorem dJ20_length_4 : decode cJ20_length 4 = .ok (.ireturn, 1) := by decide +kernel
abbrev cJ20_append_3 : ByteArray := prog_37_method_14_code
def yJ20_append_3 : MethodName := ⟨RJ20, "append", "(C)Ljava/lang/StringBuilder;"⟩
def dkwJ20_append_3_0 : List UInt8 := [42, 27, 183, 0, 50, 87, 42, 176]
abbrev dktJ20_append_3_0 : List UInt8 := dkwJ20_append_3_0 ++ []
theorem dksJ20_append_3_0 : cJ20_append_3.data.toList.drop 0 = dktJ20_append_3_0 := by decide +kernel
theorem dJ20_append_3_0 : decode cJ20_append_3 0 = .ok (.aload_n 0, 1) := dk_42 (dk_at dksJ20_append_3_0 0 rfl rfl)
theorem dJ20_append_3_1 : decode cJ20_append_3 1 = .ok (.iload_n 1, 1) := dk_27 (dk_at dksJ20_append_3_0 1 rfl rfl)
theorem dJ20_append_3_2 : decode cJ20_append_3 2 = .ok (.invokespecial 50, 3) := dk_183 0 50 (dk_at dksJ20_append_3_0 2 rfl rfl)
theorem dJ20_append_3_5 : decode cJ20_append_3 5 = .ok (.pop, 1) := dk_87 (dk_at dksJ20_append_3_0 5 rfl rfl)
theorem dJ20_append_3_6 : decode cJ20_append_3 6 = .ok (.aload_n 0, 1) := dk_42 (dk_at dksJ20_append_3_0 6 rfl rfl)
theorem dJ20_append_3_7 : decode cJ20_append_3 7 = .ok (.areturn, 1) := dk_176 (dk_at dksJ20_append_3_0 7 rfl rfl)
theorem q125 : (Jvm.Cond.initialized "java/lang/StringBuilder") ∈ lw_all := lw_g (lw_at lw_m1 29 rfl) rfl
theorem q432 : (Jvm.Cond.selects "java/lang/StringBuilder" ({ cls := "java/lang/Object", name := "getClass", desc := "()Ljava/lang/Class;" } : Jvm.MethodName) ({ cls := "java/lang/Object", name := "getClass", desc := "()Ljava/lang/Class;" } : Jvm.MethodName)) ∈ lw_all := lw_g (lw_at lw_m2 96 rfl) rfl
theorem q750 : (Jvm.Cond.instantiable "java/lang/StringBuilder" (4 : Nat)) ∈ lw_all := lw_g (lw_at lw_m3 174 rfl) rfl
theorem q752 : (Jvm.Cond.instanceMethod ({ cls := "java/lang/StringBuilder", name := "<init>", desc := "()V" } : Jvm.MethodName)) ∈ lw_all := lw_g (lw_at lw_m3 176 rfl) rfl
theorem q753 : (Jvm.Cond.code ({ cls := "java/lang/StringBuilder", name := "<init>", desc := "()V" } : Jvm.MethodName) prog_37_method_1_code (1 : Nat) (Option.none : Option Jvm.ClassFile.FieldType)) ∈ lw_all := lw_g (lw_at lw_m3 177 rfl) rfl
theorem q754 : (Jvm.Cond.methodLink "java/lang/StringBuilder" (1 : Nat) ({ cls := "java/lang/AbstractStringBuilder", name := "<init>", desc := "(I)V" } : Jvm.MethodName)) ∈ lw_all := lw_g (lw_at lw_m3 178 rfl) rfl
theorem q770 : (Jvm.Cond.lays "java/lang/StringBuilder" "java/lang/AbstractStringBuilder" "value" "[B") ∈ lw_all := lw_g (lw_at lw_m3 194 rfl) rfl
theorem q772 : (Jvm.Cond.lays "java/lang/StringBuilder" "java/lang/AbstractStringBuilder" "coder" "B") ∈ lw_all := lw_g (lw_at lw_m3 196 rfl) rfl
theorem q774 : (Jvm.Cond.lays "java/lang/StringBuilder" "java/lang/AbstractStringBuilder" "maybeLatin1" "Z") ∈ lw_all := lw_g (lw_at lw_m3 198 rfl) rfl
theorem q776 : (Jvm.Cond.lays "java/lang/StringBuilder" "java/lang/AbstractStringBuilder" "count" "I") ∈ lw_all := lw_g (lw_at lw_m3 200 rfl) rfl
theorem q778 : (Jvm.Cond.superclass "java/lang/StringBuilder" "java/lang/AbstractStringBuilder") ∈ lw_all := lw_g (lw_at lw_m3 202 rfl) rfl
theorem q782 : (Jvm.Cond.instanceMethod ({ cls := "java/lang/StringBuilder", name := "append", desc := "(Ljava/lang/String;)Ljava/lang/StringBuilder;" } : Jvm.MethodName)) ∈ lw_all := lw_g (lw_at lw_m3 206 rfl) rfl
theorem q783 : (Jvm.Cond.selects "java/lang/StringBuilder" ({ cls := "java/lang/StringBuilder", name := "append", desc := "(Ljava/lang/String;)Ljava/lang/StringBuilder;" } : Jvm.MethodName) ({ cls := "java/lang/StringBuilder", name := "append", desc := "(Ljava/lang/String;)Ljava/lang/StringBuilder;" } : Jvm.MethodName)) ∈ lw_all := lw_g (lw_at lw_m3 207 rfl) rfl
theorem q784 : (Jvm.Cond.code ({ cls := "java/lang/StringBuilder", name := "append", desc := "(Ljava/lang/String;)Ljava/lang/StringBuilder;" } : Jvm.MethodName) prog_37_method_7_code (2 : Nat) (Option.some (Jvm.ClassFile.FieldType.object "java/lang/StringBuilder"))) ∈ lw_all := lw_g (lw_at lw_m3 208 rfl) rfl
theorem q785 : (Jvm.Cond.methodLink "java/lang/StringBuilder" (29 : Nat) ({ cls := "java/lang/AbstractStringBuilder", name := "append", desc := "(Ljava/lang/String;)Ljava/lang/AbstractStringBuilder;" } : Jvm.MethodName)) ∈ lw_all := lw_g (lw_at lw_m3 209 rfl) rfl
theorem q815 : (Jvm.Cond.selects "java/lang/StringBuilder" ({ cls := "java/lang/AbstractStringBuilder", name := "isLatin1", desc := "()Z" } : Jvm.MethodName) ({ cls := "java/lang/AbstractStringBuilder", name := "isLatin1", desc := "()Z" } : Jvm.MethodName)) ∈ lw_all := lw_g (lw_at lw_m3 239 rfl) rfl
theorem q868 : (Jvm.Cond.instanceMethod ({ cls := "java/lang/StringBuilder", name := "append", desc := "(I)Ljava/lang/StringBuilder;" } : Jvm.MethodName)) ∈ lw_all := lw_g (lw_at lw_m4 52 rfl) rfl
theorem q869 : (Jvm.Cond.selects "java/lang/StringBuilder" ({ cls := "java/lang/StringBuilder", name := "append", desc := "(I)Ljava/lang/StringBuilder;" } : Jvm.MethodName) ({ cls := "java/lang/StringBuilder", name := "append", desc := "(I)Ljava/lang/StringBuilder;" } : Jvm.MethodName)) ∈ lw_all := lw_g (lw_at lw_m4 53 rfl) rfl
theorem q870 : (Jvm.Cond.code ({ cls := "java/lang/StringBuilder", name := "append", desc := "(I)Ljava/lang/StringBuilder;" } : Jvm.MethodName) prog_37_method_15_code (2 : Nat) (Option.some (Jvm.ClassFile.FieldType.object "java/lang/StringBuilder"))) ∈ lw_all := lw_g (lw_at lw_m4 54 rfl) rfl
theorem q871 : (Jvm.Cond.methodLink "java/lang/StringBuilder" (53 : Nat) ({ cls := "java/lang/AbstractStringBuilder", name := "append", desc := "(I)Ljava/lang/AbstractStringBuilder;" } : Jvm.MethodName)) ∈ lw_all := lw_g (lw_at lw_m4 55 rfl) rfl
theorem q894 : (Jvm.Cond.instanceMethod ({ cls := "java/lang/StringBuilder", name := "toString", desc := "()Ljava/lang/String;" } : Jvm.MethodName)) ∈ lw_all := lw_g (lw_at lw_m4 78 rfl) rfl
theorem q895 : (Jvm.Cond.selects "java/lang/StringBuilder" ({ cls := "java/lang/StringBuilder", name := "toString", desc := "()Ljava/lang/String;" } : Jvm.MethodName) ({ cls := "java/lang/StringBuilder", name := "toString", desc := "()Ljava/lang/String;" } : Jvm.MethodName)) ∈ lw_all := lw_g (lw_at lw_m4 79 rfl) rfl
theorem q896 : (Jvm.Cond.code ({ cls := "java/lang/StringBuilder", name := "toString", desc := "()Ljava/lang/String;" } : Jvm.MethodName) prog_37_method_42_code (1 : Nat) (Option.some (Jvm.ClassFile.FieldType.object "java/lang/String"))) ∈ lw_all := lw_g (lw_at lw_m4 80 rfl) rfl
theorem q897 : (Jvm.Cond.classLink "java/lang/StringBuilder" (18 : Nat) "java/lang/String") ∈ lw_all := lw_g (lw_at lw_m4 81 rfl) rfl
theorem q899 : (Jvm.Cond.methodLink "java/lang/StringBuilder" (137 : Nat) ({ cls := "java/lang/String", name := "<init>", desc := "(Ljava/lang/StringBuilder;)V" } : Jvm.MethodName)) ∈ lw_all := lw_g (lw_at lw_m4 83 rfl) rfl
theorem q909 : (Jvm.Cond.selects "java/lang/StringBuilder" ({ cls := "java/lang/AbstractStringBuilder", name := "getValue", desc := "()[B" } : Jvm.MethodName) ({ cls := "java/lang/AbstractStringBuilder", name := "getValue", desc := "()[B" } : Jvm.MethodName)) ∈ lw_all := lw_g (lw_at lw_m4 93 rfl) rfl
theorem q914 : (Jvm.Cond.selects "java/lang/StringBuilder" ({ cls := "java/lang/AbstractStringBuilder", name := "length", desc := "()I" } : Jvm.MethodName) ({ cls := "java/lang/StringBuilder", name := "length", desc := "()I" } : Jvm.MethodName)) ∈ lw_all := lw_g (lw_at lw_m4 98 rfl) rfl
theorem q915 : (Jvm.Cond.instanceMethod ({ cls := "java/lang/StringBuilder", name := "length", desc := "()I" } : Jvm.MethodName)) ∈ lw_all := lw_g (lw_at lw_m4 99 rfl) rfl
theorem q916 : (Jvm.Cond.code ({ cls := "java/lang/StringBuilder", name := "length", desc := "()I" } : Jvm.MethodName) prog_37_method_93_code (1 : Nat) (Option.some Jvm.ClassFile.FieldType.int)) ∈ lw_all := lw_g (lw_at lw_m4 100 rfl) rfl
theorem q917 : (Jvm.Cond.methodLink "java/lang/StringBuilder" (343 : Nat) ({ cls := "java/lang/AbstractStringBuilder", name := "length", desc := "()I" } : Jvm.MethodName)) ∈ lw_all := lw_g (lw_at lw_m4 101 rfl) rfl
theorem q1237 : (Jvm.Cond.selects "java/lang/StringBuilder" ({ cls := "java/lang/Object", name := "equals", desc := "(Ljava/lang/Object;)Z" } : Jvm.MethodName) ({ cls := "java/lang/Object", name := "equals", desc := "(Ljava/lang/Object;)Z" } : Jvm.MethodName)) ∈ lw_all := lw_g (lw_at lw_m5 181 rfl) rfl
theorem q1557 : (Jvm.Cond.instanceMethod ({ cls := "java/lang/StringBuilder", name := "append", desc := "(C)Ljava/lang/StringBuilder;" } : Jvm.MethodName)) ∈ lw_all := lw_g (lw_at lw_m7 21 rfl) rfl
theorem q1558 : (Jvm.Cond.selects "java/lang/StringBuilder" ({ cls := "java/lang/StringBuilder", name := "append", desc := "(C)Ljava/lang/StringBuilder;" } : Jvm.MethodName) ({ cls := "java/lang/StringBuilder", name := "append", desc := "(C)Ljava/lang/StringBuilder;" } : Jvm.MethodName)) ∈ lw_all := lw_g (lw_at lw_m7 22 rfl) rfl
theorem q1559 : (Jvm.Cond.code ({ cls := "java/lang/StringBuilder", name := "append", desc := "(C)Ljava/lang/StringBuilder;" } : Jvm.MethodName) prog_37_method_14_code (2 : Nat) (Option.some (Jvm.ClassFile.FieldType.object "java/lang/StringBuilder"))) ∈ lw_all := lw_g (lw_at lw_m7 23 rfl) rfl
theorem q1560 : (Jvm.Cond.methodLink "java/lang/StringBuilder" (50 : Nat) ({ cls := "java/lang/AbstractStringBuilder", name := "append", desc := "(C)Ljava/lang/AbstractStringBuilder;" } : Jvm.MethodName)) ∈ lw_all := lw_g (lw_at lw_m7 24 rfl) rfl
theorem q2338 : (Jvm.Cond.castable "java/lang/StringBuilder" "java/lang/Object") ∈ lw_tbl := lw_at lw_m10 82 rfl
theorem in_J20 : ∀ w ∈ wsJ200, w ∈ lw_all := lw_in wsJ200 [770, 772, 774, 776] (by decide +kernel) (by decide +kernel)
/-! java/util/Objects -/
set_option maxRecDepth 100000
def RJ21 : String := "java/util/Objects"
abbrev cJ21_checkIndex : ByteArray := prog_54_method_17_code
def yJ21_checkIndex : MethodName := ⟨RJ21, "checkIndex", "(II)I"⟩
def dkwJ21_checkIndex_0 : List UInt8 := [26, 27, 1, 184, 0, 105, 172]
abbrev dktJ21_checkIndex_0 : List UInt8 := dkwJ21_checkIndex_0 ++ []
theorem dksJ21_checkIndex_0 : cJ21_checkIndex.data.toList.drop 0 = dktJ21_checkIndex_0 := by decide +kernel
theorem dJ21_checkIndex_0 : decode cJ21_checkIndex 0 = .ok (.iload_n 0, 1) := dk_26 (dk_at dksJ21_checkIndex_0 0 rfl rfl)
theorem dJ21_checkIndex_1 : decode cJ21_checkIndex 1 = .ok (.iload_n 1, 1) := dk_27 (dk_at dksJ21_checkIndex_0 1 rfl rfl)
theorem dJ21_checkIndex_2 : decode cJ21_checkIndex 2 = .ok (.aconst_null, 1) := dk_1 (dk_at dksJ21_checkIndex_0 2 rfl rfl)
theorem dJ21_checkIndex_3 : decode cJ21_checkIndex 3 = .ok (.invokestatic 105, 3) := dk_184 0 105 (dk_at dksJ21_checkIndex_0 3 rfl rfl)
theorem dJ21_checkIndex_6 : decode cJ21_checkIndex 6 = .ok (.ireturn, 1) := dk_172 (dk_at dksJ21_checkIndex_0 6 rfl rfl)
theorem q126 : (Jvm.Cond.initialized "java/util/Objects") ∈ lw_all := lw_g (lw_at lw_m1 30 rfl) rfl
theorem q475 : (Jvm.Cond.static ({ cls := "java/util/Objects", name := "checkIndex", desc := "(II)I" } : Jvm.MethodName)) ∈ lw_all := lw_g (lw_at lw_m2 139 rfl) rfl
theorem q476 : (Jvm.Cond.code ({ cls := "java/util/Objects", name := "checkIndex", desc := "(II)I" } : Jvm.MethodName) prog_54_method_17_code (2 : Nat) (Option.some Jvm.ClassFile.FieldType.int)) ∈ lw_all := lw_g (lw_at lw_m2 140 rfl) rfl
theorem q477 : (Jvm.Cond.methodLink "java/util/Objects" (105 : Nat) ({ cls := "jdk/internal/util/Preconditions", name := "checkIndex", desc := "(IILjava/util/function/BiFunction;)I" } : Jvm.MethodName)) ∈ lw_all := lw_g (lw_at lw_m2 141 rfl) rfl
/-! java/lang/IndexOutOfBoundsException -/
set_option maxRecDepth 100000
def RJ22 : String := "java/lang/IndexOutOfBoundsException"
def TJ22 : u_T := fun k => match k with
  | 0 => ("java/lang/Throwable", "cause", "Ljava/lang/Throwable;", false)
  | 1 => ("java/lang/Throwable", "stackTrace", "[Ljava/lang/StackTraceElement;", false)
  | 2 => ("java/lang/Throwable", "suppressedExceptions", "Ljava/util/List;", false)
  | 3 => ("java/lang/Throwable", "detailMessage", "Ljava/lang/String;", false)
  | 4 => ("java/lang/Throwable", "backtrace", "Ljava/lang/Object;", false)
  | _ => ("java/lang/Throwable", "depth", "I", false)
def tyJ22 : Nat → FieldType := fun k => match k with
  | 0 => .object "java/lang/Throwable"
  | 1 => .array (.object "java/lang/StackTraceElement")
  | 2 => .object "java/util/List"
  | 3 => .object "java/lang/String"
  | 4 => .object "java/lang/Object"
  | _ => .int
abbrev wsJ220 : List Cond := u_ws RJ22 TJ22 6
theorem nmJ22 : ∀ a, a < 6 → ∀ b, b < 6 → a ≠ b → (TJ22 a).2.1 ≠ (TJ22 b).2.1 := by decide +kernel
theorem tyJ22_ok : ∀ k, k < 6 → parseFieldDescriptor (TJ22 k).2.2.1 = some (tyJ22 k) := by decide +kernel
abbrev cJ22_init : ByteArray := prog_29_method_2_code
def yJ22_init : MethodName := ⟨RJ22, "<init>", "(Ljava/lang/String;)V"⟩
def dkwJ22_init_0 : List UInt8 := [42, 43, 183, 0, 7, 177]
abbrev dktJ22_init_0 : List UInt8 := dkwJ22_init_0 ++ []
theorem dksJ22_init_0 : cJ22_init.data.toList.drop 0 = dktJ22_init_0 := by decide +kernel
theorem dJ22_init_0 : decode cJ22_init 0 = .ok (.aload_n 0, 1) := dk_42 (dk_at dksJ22_init_0 0 rfl rfl)
theorem dJ22_init_1 : decode cJ22_init 1 = .ok (.aload_n 1, 1) := dk_43 (dk_at dksJ22_init_0 1 rfl rfl)
theorem dJ22_init_2 : decode cJ22_init 2 = .ok (.invokespecial 7, 3) := dk_183 0 7 (dk_at dksJ22_init_0 2 rfl rfl)
theorem dJ22_init_5 : decode cJ22_init 5 = .ok (.return_, 1) := dk_177 (dk_at dksJ22_init_0 5 rfl rfl)
abbrev cJ22_init_2 : ByteArray := prog_29_method_1_code
def yJ22_init_2 : MethodName := ⟨RJ22, "<init>", "()V"⟩
theorem dJ22_init_2_0 : decode cJ22_init_2 0 = .ok (.aload_n 0, 1) := by decide +kernel
theorem dJ22_init_2_1 : decode cJ22_init_2 1 = .ok (.invokespecial 1, 3) := by decide +kernel
theorem dJ22_init_2_4 : decode cJ22_init_2 4 = .ok (.return_, 1) := by decide +kernel
theorem q129 : (Jvm.Cond.initialized "java/lang/IndexOutOfBoundsException") ∈ lw_all := lw_g (lw_at lw_m1 33 rfl) rfl
theorem q346 : (Jvm.Cond.selects "java/lang/IndexOutOfBoundsException" ({ cls := "java/lang/Throwable", name := "fillInStackTrace", desc := "()Ljava/lang/Throwable;" } : Jvm.MethodName) ({ cls := "java/lang/Throwable", name := "fillInStackTrace", desc := "()Ljava/lang/Throwable;" } : Jvm.MethodName)) ∈ lw_all := lw_g (lw_at lw_m2 10 rfl) rfl
theorem q429 : (Jvm.Cond.selects "java/lang/IndexOutOfBoundsException" ({ cls := "java/lang/Object", name := "getClass", desc := "()Ljava/lang/Class;" } : Jvm.MethodName) ({ cls := "java/lang/Object", name := "getClass", desc := "()Ljava/lang/Class;" } : Jvm.MethodName)) ∈ lw_all := lw_g (lw_at lw_m2 93 rfl) rfl
theorem q737 : (Jvm.Cond.instantiable "java/lang/IndexOutOfBoundsException" (6 : Nat)) ∈ lw_all := lw_g (lw_at lw_m3 161 rfl) rfl
theorem q738 : (Jvm.Cond.castable "java/lang/IndexOutOfBoundsException" "java/lang/IndexOutOfBoundsException") ∈ lw_tbl := lw_at lw_m3 162 rfl
theorem q739 : (Jvm.Cond.selects "java/lang/IndexOutOfBoundsException" ({ cls := "java/lang/Throwable", name := "fillInStackTrace", desc := "(I)Ljava/lang/Throwable;" } : Jvm.MethodName) ({ cls := "java/lang/Throwable", name := "fillInStackTrace", desc := "(I)Ljava/lang/Throwable;" } : Jvm.MethodName)) ∈ lw_all := lw_g (lw_at lw_m3 163 rfl) rfl
theorem q740 : (Jvm.Cond.lays "java/lang/IndexOutOfBoundsException" "java/lang/Throwable" "cause" "Ljava/lang/Throwable;") ∈ lw_all := lw_g (lw_at lw_m3 164 rfl) rfl
theorem q741 : (Jvm.Cond.lays "java/lang/IndexOutOfBoundsException" "java/lang/Throwable" "stackTrace" "[Ljava/lang/StackTraceElement;") ∈ lw_all := lw_g (lw_at lw_m3 165 rfl) rfl
theorem q742 : (Jvm.Cond.lays "java/lang/IndexOutOfBoundsException" "java/lang/Throwable" "suppressedExceptions" "Ljava/util/List;") ∈ lw_all := lw_g (lw_at lw_m3 166 rfl) rfl
theorem q743 : (Jvm.Cond.lays "java/lang/IndexOutOfBoundsException" "java/lang/Throwable" "detailMessage" "Ljava/lang/String;") ∈ lw_all := lw_g (lw_at lw_m3 167 rfl) rfl
theorem q744 : (Jvm.Cond.lays "java/lang/IndexOutOfBoundsException" "java/lang/Throwable" "backtrace" "Ljava/lang/Object;") ∈ lw_all := lw_g (lw_at lw_m3 168 rfl) rfl
theorem q980 : (Jvm.Cond.instanceMethod ({ cls := "java/lang/IndexOutOfBoundsException", name := "<init>", desc := "(Ljava/lang/String;)V" } : Jvm.MethodName)) ∈ lw_all := lw_g (lw_at lw_m4 164 rfl) rfl
theorem q981 : (Jvm.Cond.code ({ cls := "java/lang/IndexOutOfBoundsException", name := "<init>", desc := "(Ljava/lang/String;)V" } : Jvm.MethodName) prog_29_method_2_code (2 : Nat) (Option.none : Option Jvm.ClassFile.FieldType)) ∈ lw_all := lw_g (lw_at lw_m4 165 rfl) rfl
theorem q982 : (Jvm.Cond.methodLink "java/lang/IndexOutOfBoundsException" (7 : Nat) ({ cls := "java/lang/RuntimeException", name := "<init>", desc := "(Ljava/lang/String;)V" } : Jvm.MethodName)) ∈ lw_all := lw_g (lw_at lw_m4 166 rfl) rfl
theorem q983 : (Jvm.Cond.lays "java/lang/IndexOutOfBoundsException" "java/lang/Throwable" "depth" "I") ∈ lw_all := lw_g (lw_at lw_m4 167 rfl) rfl
theorem q984 : (Jvm.Cond.superclass "java/lang/IndexOutOfBoundsException" "java/lang/RuntimeException") ∈ lw_all := lw_g (lw_at lw_m4 168 rfl) rfl
theorem q1231 : (Jvm.Cond.selects "java/lang/IndexOutOfBoundsException" ({ cls := "java/lang/Object", name := "equals", desc := "(Ljava/lang/Object;)Z" } : Jvm.MethodName) ({ cls := "java/lang/Object", name := "equals", desc := "(Ljava/lang/Object;)Z" } : Jvm.MethodName)) ∈ lw_all := lw_g (lw_at lw_m5 175 rfl) rfl
theorem q1526 : (Jvm.Cond.declares ({ cls := "java/lang/IndexOutOfBoundsException", name := "<init>", desc := "()V" } : Jvm.MethodName)) ∈ lw_tbl := lw_at lw_m6 230 rfl
theorem q1527 : (Jvm.Cond.declares ({ cls := "java/lang/IndexOutOfBoundsException", name := "<init>", desc := "(Ljava/lang/String;)V" } : Jvm.MethodName)) ∈ lw_tbl := lw_at lw_m6 231 rfl
theorem q1542 : (Jvm.Cond.instanceMethod ({ cls := "java/lang/IndexOutOfBoundsException", name := "<init>", desc := "()V" } : Jvm.MethodName)) ∈ lw_all := lw_g (lw_at lw_m7 6 rfl) rfl
theorem q1543 : (Jvm.Cond.code ({ cls := "java/lang/IndexOutOfBoundsException", name := "<init>", desc := "()V" } : Jvm.MethodName) prog_29_method_1_code (1 : Nat) (Option.none : Option Jvm.ClassFile.FieldType)) ∈ lw_all := lw_g (lw_at lw_m7 7 rfl) rfl
theorem q1544 : (Jvm.Cond.methodLink "java/lang/IndexOutOfBoundsException" (1 : Nat) ({ cls := "java/lang/RuntimeException", name := "<init>", desc := "()V" } : Jvm.MethodName)) ∈ lw_all := lw_g (lw_at lw_m7 8 rfl) rfl
theorem q1831 : (Jvm.Cond.selects "java/lang/IndexOutOfBoundsException" ({ cls := "java/lang/Throwable", name := "getCause", desc := "()Ljava/lang/Throwable;" } : Jvm.MethodName) ({ cls := "java/lang/Throwable", name := "getCause", desc := "()Ljava/lang/Throwable;" } : Jvm.MethodName)) ∈ lw_all := lw_g (lw_at lw_m8 55 rfl) rfl
theorem q2340 : (Jvm.Cond.castable "java/lang/IndexOutOfBoundsException" "java/lang/Object") ∈ lw_tbl := lw_at lw_m10 84 rfl
theorem in_J22 : ∀ w ∈ wsJ220, w ∈ lw_all := lw_in wsJ220 [740, 741, 742, 743, 744, 983] (by decide +kernel) (by decide +kernel)
/-! java/lang/UnsupportedOperationException -/
set_option maxRecDepth 100000
def RJ23 : String := "java/lang/UnsupportedOperationException"
def TJ23 : u_T := fun k => match k with
  | 0 => ("java/lang/Throwable", "cause", "Ljava/lang/Throwable;", false)
  | 1 => ("java/lang/Throwable", "stackTrace", "[Ljava/lang/StackTraceElement;", false)
  | 2 => ("java/lang/Throwable", "suppressedExceptions", "Ljava/util/List;", false)
  | 3 => ("java/lang/Throwable", "detailMessage", "Ljava/lang/String;", false)
  | 4 => ("java/lang/Throwable", "backtrace", "Ljava/lang/Object;", false)
  | _ => ("java/lang/Throwable", "depth", "I", false)
def tyJ23 : Nat → FieldType := fun k => match k with
  | 0 => .object "java/lang/Throwable"
  | 1 => .array (.object "java/lang/StackTraceElement")
  | 2 => .object "java/util/List"
  | 3 => .object "java/lang/String"
  | 4 => .object "java/lang/Object"
  | _ => .int
abbrev wsJ230 : List Cond := u_ws RJ23 TJ23 6
theorem nmJ23 : ∀ a, a < 6 → ∀ b, b < 6 → a ≠ b → (TJ23 a).2.1 ≠ (TJ23 b).2.1 := by decide +kernel
theorem tyJ23_ok : ∀ k, k < 6 → parseFieldDescriptor (TJ23 k).2.2.1 = some (tyJ23 k) := by decide +kernel
abbrev cJ23_init : ByteArray := prog_42_method_1_code
def yJ23_init : MethodName := ⟨RJ23, "<init>", "()V"⟩
theorem dJ23_init_0 : decode cJ23_init 0 = .ok (.aload_n 0, 1) := by decide +kernel
theorem dJ23_init_1 : decode cJ23_init 1 = .ok (.invokespecial 1, 3) := by decide +kernel
theorem dJ23_init_4 : decode cJ23_init 4 = .ok (.return_, 1) := by decide +kernel
theorem q131 : (Jvm.Cond.initialized "java/lang/UnsupportedOperationException") ∈ lw_all := lw_g (lw_at lw_m1 35 rfl) rfl
theorem q347 : (Jvm.Cond.selects "java/lang/UnsupportedOperationException" ({ cls := "java/lang/Throwable", name := "fillInStackTrace", desc := "()Ljava/lang/Throwable;" } : Jvm.MethodName) ({ cls := "java/lang/Throwable", name := "fillInStackTrace", desc := "()Ljava/lang/Throwable;" } : Jvm.MethodName)) ∈ lw_all := lw_g (lw_at lw_m2 11 rfl) rfl
theorem q433 : (Jvm.Cond.selects "java/lang/UnsupportedOperationException" ({ cls := "java/lang/Object", name := "getClass", desc := "()Ljava/lang/Class;" } : Jvm.MethodName) ({ cls := "java/lang/Object", name := "getClass", desc := "()Ljava/lang/Class;" } : Jvm.MethodName)) ∈ lw_all := lw_g (lw_at lw_m2 97 rfl) rfl
theorem q1238 : (Jvm.Cond.selects "java/lang/UnsupportedOperationException" ({ cls := "java/lang/Object", name := "equals", desc := "(Ljava/lang/Object;)Z" } : Jvm.MethodName) ({ cls := "java/lang/Object", name := "equals", desc := "(Ljava/lang/Object;)Z" } : Jvm.MethodName)) ∈ lw_all := lw_g (lw_at lw_m5 182 rfl) rfl
theorem q1465 : (Jvm.Cond.instantiable "java/lang/UnsupportedOperationException" (6 : Nat)) ∈ lw_all := lw_g (lw_at lw_m6 169 rfl) rfl
theorem q1466 : (Jvm.Cond.castable "java/lang/UnsupportedOperationException" "java/lang/UnsupportedOperationException") ∈ lw_tbl := lw_at lw_m6 170 rfl
theorem q1467 : (Jvm.Cond.selects "java/lang/UnsupportedOperationException" ({ cls := "java/lang/Throwable", name := "fillInStackTrace", desc := "(I)Ljava/lang/Throwable;" } : Jvm.MethodName) ({ cls := "java/lang/Throwable", name := "fillInStackTrace", desc := "(I)Ljava/lang/Throwable;" } : Jvm.MethodName)) ∈ lw_all := lw_g (lw_at lw_m6 171 rfl) rfl
theorem q1468 : (Jvm.Cond.lays "java/lang/UnsupportedOperationException" "java/lang/Throwable" "cause" "Ljava/lang/Throwable;") ∈ lw_all := lw_g (lw_at lw_m6 172 rfl) rfl
theorem q1469 : (Jvm.Cond.lays "java/lang/UnsupportedOperationException" "java/lang/Throwable" "stackTrace" "[Ljava/lang/StackTraceElement;") ∈ lw_all := lw_g (lw_at lw_m6 173 rfl) rfl
theorem q1470 : (Jvm.Cond.lays "java/lang/UnsupportedOperationException" "java/lang/Throwable" "suppressedExceptions" "Ljava/util/List;") ∈ lw_all := lw_g (lw_at lw_m6 174 rfl) rfl
theorem q1471 : (Jvm.Cond.lays "java/lang/UnsupportedOperationException" "java/lang/Throwable" "detailMessage" "Ljava/lang/String;") ∈ lw_all := lw_g (lw_at lw_m6 175 rfl) rfl
theorem q1472 : (Jvm.Cond.lays "java/lang/UnsupportedOperationException" "java/lang/Throwable" "backtrace" "Ljava/lang/Object;") ∈ lw_all := lw_g (lw_at lw_m6 176 rfl) rfl
theorem q1474 : (Jvm.Cond.instanceMethod ({ cls := "java/lang/UnsupportedOperationException", name := "<init>", desc := "()V" } : Jvm.MethodName)) ∈ lw_all := lw_g (lw_at lw_m6 178 rfl) rfl
theorem q1475 : (Jvm.Cond.code ({ cls := "java/lang/UnsupportedOperationException", name := "<init>", desc := "()V" } : Jvm.MethodName) prog_42_method_1_code (1 : Nat) (Option.none : Option Jvm.ClassFile.FieldType)) ∈ lw_all := lw_g (lw_at lw_m6 179 rfl) rfl
theorem q1476 : (Jvm.Cond.methodLink "java/lang/UnsupportedOperationException" (1 : Nat) ({ cls := "java/lang/RuntimeException", name := "<init>", desc := "()V" } : Jvm.MethodName)) ∈ lw_all := lw_g (lw_at lw_m6 180 rfl) rfl
theorem q1477 : (Jvm.Cond.lays "java/lang/UnsupportedOperationException" "java/lang/Throwable" "depth" "I") ∈ lw_all := lw_g (lw_at lw_m6 181 rfl) rfl
theorem q1478 : (Jvm.Cond.superclass "java/lang/UnsupportedOperationException" "java/lang/RuntimeException") ∈ lw_all := lw_g (lw_at lw_m6 182 rfl) rfl
theorem q1832 : (Jvm.Cond.selects "java/lang/UnsupportedOperationException" ({ cls := "java/lang/Throwable", name := "getCause", desc := "()Ljava/lang/Throwable;" } : Jvm.MethodName) ({ cls := "java/lang/Throwable", name := "getCause", desc := "()Ljava/lang/Throwable;" } : Jvm.MethodName)) ∈ lw_all := lw_g (lw_at lw_m8 56 rfl) rfl
theorem q2342 : (Jvm.Cond.castable "java/lang/UnsupportedOperationException" "java/lang/Object") ∈ lw_tbl := lw_at lw_m10 86 rfl
theorem in_J23 : ∀ w ∈ wsJ230, w ∈ lw_all := lw_in wsJ230 [1468, 1469, 1470, 1471, 1472, 1477] (by decide +kernel) (by decide +kernel)
/-! java/lang/ArrayIndexOutOfBoundsException -/
set_option maxRecDepth 100000
def RJ24 : String := "java/lang/ArrayIndexOutOfBoundsException"
def TJ24 : u_T := fun k => match k with
  | 0 => ("java/lang/Throwable", "backtrace", "Ljava/lang/Object;", false)
  | 1 => ("java/lang/Throwable", "detailMessage", "Ljava/lang/String;", false)
  | 2 => ("java/lang/Throwable", "cause", "Ljava/lang/Throwable;", false)
  | 3 => ("java/lang/Throwable", "stackTrace", "[Ljava/lang/StackTraceElement;", false)
  | 4 => ("java/lang/Throwable", "depth", "I", false)
  | _ => ("java/lang/Throwable", "suppressedExceptions", "Ljava/util/List;", false)
def tyJ24 : Nat → FieldType := fun k => match k with
  | 0 => .object "java/lang/Object"
  | 1 => .object "java/lang/String"
  | 2 => .object "java/lang/Throwable"
  | 3 => .array (.object "java/lang/StackTraceElement")
  | 4 => .int
  | _ => .object "java/util/List"
abbrev wsJ240 : List Cond := u_ws RJ24 TJ24 6
theorem nmJ24 : ∀ a, a < 6 → ∀ b, b < 6 → a ≠ b → (TJ24 a).2.1 ≠ (TJ24 b).2.1 := by decide +kernel
theorem tyJ24_ok : ∀ k, k < 6 → parseFieldDescriptor (TJ24 k).2.2.1 = some (tyJ24 k) := by decide +kernel
abbrev cJ24_init : ByteArray := prog_22_method_2_code
def yJ24_init : MethodName := ⟨RJ24, "<init>", "(Ljava/lang/String;)V"⟩
def dkwJ24_init_0 : List UInt8 := [42, 43, 183, 0, 7, 177]
abbrev dktJ24_init_0 : List UInt8 := dkwJ24_init_0 ++ []
theorem dksJ24_init_0 : cJ24_init.data.toList.drop 0 = dktJ24_init_0 := by decide +kernel
theorem dJ24_init_0 : decode cJ24_init 0 = .ok (.aload_n 0, 1) := dk_42 (dk_at dksJ24_init_0 0 rfl rfl)
theorem dJ24_init_1 : decode cJ24_init 1 = .ok (.aload_n 1, 1) := dk_43 (dk_at dksJ24_init_0 1 rfl rfl)
theorem dJ24_init_2 : decode cJ24_init 2 = .ok (.invokespecial 7, 3) := dk_183 0 7 (dk_at dksJ24_init_0 2 rfl rfl)
theorem dJ24_init_5 : decode cJ24_init 5 = .ok (.return_, 1) := dk_177 (dk_at dksJ24_init_0 5 rfl rfl)
theorem q132 : (Jvm.Cond.initialized "java/lang/ArrayIndexOutOfBoundsException") ∈ lw_all := lw_g (lw_at lw_m1 36 rfl) rfl
theorem q343 : (Jvm.Cond.selects "java/lang/ArrayIndexOutOfBoundsException" ({ cls := "java/lang/Throwable", name := "fillInStackTrace", desc := "()Ljava/lang/Throwable;" } : Jvm.MethodName) ({ cls := "java/lang/Throwable", name := "fillInStackTrace", desc := "()Ljava/lang/Throwable;" } : Jvm.MethodName)) ∈ lw_all := lw_g (lw_at lw_m2 7 rfl) rfl
theorem q426 : (Jvm.Cond.selects "java/lang/ArrayIndexOutOfBoundsException" ({ cls := "java/lang/Object", name := "getClass", desc := "()Ljava/lang/Class;" } : Jvm.MethodName) ({ cls := "java/lang/Object", name := "getClass", desc := "()Ljava/lang/Class;" } : Jvm.MethodName)) ∈ lw_all := lw_g (lw_at lw_m2 90 rfl) rfl
theorem q1228 : (Jvm.Cond.selects "java/lang/ArrayIndexOutOfBoundsException" ({ cls := "java/lang/Object", name := "equals", desc := "(Ljava/lang/Object;)Z" } : Jvm.MethodName) ({ cls := "java/lang/Object", name := "equals", desc := "(Ljava/lang/Object;)Z" } : Jvm.MethodName)) ∈ lw_all := lw_g (lw_at lw_m5 172 rfl) rfl
theorem q1514 : (Jvm.Cond.instantiable "java/lang/ArrayIndexOutOfBoundsException" (6 : Nat)) ∈ lw_all := lw_g (lw_at lw_m6 218 rfl) rfl
theorem q1515 : (Jvm.Cond.instanceMethod ({ cls := "java/lang/ArrayIndexOutOfBoundsException", name := "<init>", desc := "(Ljava/lang/String;)V" } : Jvm.MethodName)) ∈ lw_all := lw_g (lw_at lw_m6 219 rfl) rfl
theorem q1516 : (Jvm.Cond.code ({ cls := "java/lang/ArrayIndexOutOfBoundsException", name := "<init>", desc := "(Ljava/lang/String;)V" } : Jvm.MethodName) prog_22_method_2_code (2 : Nat) (Option.none : Option Jvm.ClassFile.FieldType)) ∈ lw_all := lw_g (lw_at lw_m6 220 rfl) rfl
theorem q1517 : (Jvm.Cond.methodLink "java/lang/ArrayIndexOutOfBoundsException" (7 : Nat) ({ cls := "java/lang/IndexOutOfBoundsException", name := "<init>", desc := "(Ljava/lang/String;)V" } : Jvm.MethodName)) ∈ lw_all := lw_g (lw_at lw_m6 221 rfl) rfl
theorem q1518 : (Jvm.Cond.lays "java/lang/ArrayIndexOutOfBoundsException" "java/lang/Throwable" "backtrace" "Ljava/lang/Object;") ∈ lw_all := lw_g (lw_at lw_m6 222 rfl) rfl
theorem q1519 : (Jvm.Cond.lays "java/lang/ArrayIndexOutOfBoundsException" "java/lang/Throwable" "detailMessage" "Ljava/lang/String;") ∈ lw_all := lw_g (lw_at lw_m6 223 rfl) rfl
theorem q1520 : (Jvm.Cond.lays "java/lang/ArrayIndexOutOfBoundsException" "java/lang/Throwable" "cause" "Ljava/lang/Throwable;") ∈ lw_all := lw_g (lw_at lw_m6 224 rfl) rfl
theorem q1521 : (Jvm.Cond.lays "java/lang/ArrayIndexOutOfBoundsException" "java/lang/Throwable" "stackTrace" "[Ljava/lang/StackTraceElement;") ∈ lw_all := lw_g (lw_at lw_m6 225 rfl) rfl
theorem q1522 : (Jvm.Cond.lays "java/lang/ArrayIndexOutOfBoundsException" "java/lang/Throwable" "depth" "I") ∈ lw_all := lw_g (lw_at lw_m6 226 rfl) rfl
theorem q1523 : (Jvm.Cond.lays "java/lang/ArrayIndexOutOfBoundsException" "java/lang/Throwable" "suppressedExceptions" "Ljava/util/List;") ∈ lw_all := lw_g (lw_at lw_m6 227 rfl) rfl
theorem q1524 : (Jvm.Cond.superclass "java/lang/ArrayIndexOutOfBoundsException" "java/lang/IndexOutOfBoundsException") ∈ lw_all := lw_g (lw_at lw_m6 228 rfl) rfl
theorem q1525 : (Jvm.Cond.castable "java/lang/ArrayIndexOutOfBoundsException" "java/lang/ArrayIndexOutOfBoundsException") ∈ lw_tbl := lw_at lw_m6 229 rfl
theorem q1528 : (Jvm.Cond.selects "java/lang/ArrayIndexOutOfBoundsException" ({ cls := "java/lang/Throwable", name := "fillInStackTrace", desc := "(I)Ljava/lang/Throwable;" } : Jvm.MethodName) ({ cls := "java/lang/Throwable", name := "fillInStackTrace", desc := "(I)Ljava/lang/Throwable;" } : Jvm.MethodName)) ∈ lw_all := lw_g (lw_at lw_m6 232 rfl) rfl
theorem q1828 : (Jvm.Cond.selects "java/lang/ArrayIndexOutOfBoundsException" ({ cls := "java/lang/Throwable", name := "getCause", desc := "()Ljava/lang/Throwable;" } : Jvm.MethodName) ({ cls := "java/lang/Throwable", name := "getCause", desc := "()Ljava/lang/Throwable;" } : Jvm.MethodName)) ∈ lw_all := lw_g (lw_at lw_m8 52 rfl) rfl
theorem q2319 : (Jvm.Cond.castable "java/lang/ArrayIndexOutOfBoundsException" "java/lang/IndexOutOfBoundsException") ∈ lw_tbl := lw_at lw_m10 63 rfl
theorem q2343 : (Jvm.Cond.castable "java/lang/ArrayIndexOutOfBoundsException" "java/lang/Object") ∈ lw_tbl := lw_at lw_m10 87 rfl
theorem in_J24 : ∀ w ∈ wsJ240, w ∈ lw_all := lw_in wsJ240 [1518, 1519, 1520, 1521, 1522, 1523] (by decide +kernel) (by decide +kernel)
/-! java/lang/ArithmeticException -/
set_option maxRecDepth 100000
def RJ25 : String := "java/lang/ArithmeticException"
def TJ25 : u_T := fun k => match k with
  | 0 => ("java/lang/Throwable", "backtrace", "Ljava/lang/Object;", false)
  | 1 => ("java/lang/Throwable", "detailMessage", "Ljava/lang/String;", false)
  | 2 => ("java/lang/Throwable", "cause", "Ljava/lang/Throwable;", false)
  | 3 => ("java/lang/Throwable", "stackTrace", "[Ljava/lang/StackTraceElement;", false)
  | 4 => ("java/lang/Throwable", "depth", "I", false)
  | _ => ("java/lang/Throwable", "suppressedExceptions", "Ljava/util/List;", false)
def tyJ25 : Nat → FieldType := fun k => match k with
  | 0 => .object "java/lang/Object"
  | 1 => .object "java/lang/String"
  | 2 => .object "java/lang/Throwable"
  | 3 => .array (.object "java/lang/StackTraceElement")
  | 4 => .int
  | _ => .object "java/util/List"
abbrev wsJ250 : List Cond := u_ws RJ25 TJ25 6
theorem nmJ25 : ∀ a, a < 6 → ∀ b, b < 6 → a ≠ b → (TJ25 a).2.1 ≠ (TJ25 b).2.1 := by decide +kernel
theorem tyJ25_ok : ∀ k, k < 6 → parseFieldDescriptor (TJ25 k).2.2.1 = some (tyJ25 k) := by decide +kernel
abbrev cJ25_init : ByteArray := prog_21_method_2_code
def yJ25_init : MethodName := ⟨RJ25, "<init>", "(Ljava/lang/String;)V"⟩
def dkwJ25_init_0 : List UInt8 := [42, 43, 183, 0, 7, 177]
abbrev dktJ25_init_0 : List UInt8 := dkwJ25_init_0 ++ []
theorem dksJ25_init_0 : cJ25_init.data.toList.drop 0 = dktJ25_init_0 := by decide +kernel
theorem dJ25_init_0 : decode cJ25_init 0 = .ok (.aload_n 0, 1) := dk_42 (dk_at dksJ25_init_0 0 rfl rfl)
theorem dJ25_init_1 : decode cJ25_init 1 = .ok (.aload_n 1, 1) := dk_43 (dk_at dksJ25_init_0 1 rfl rfl)
theorem dJ25_init_2 : decode cJ25_init 2 = .ok (.invokespecial 7, 3) := dk_183 0 7 (dk_at dksJ25_init_0 2 rfl rfl)
theorem dJ25_init_5 : decode cJ25_init 5 = .ok (.return_, 1) := dk_177 (dk_at dksJ25_init_0 5 rfl rfl)
abbrev cJ25_init_2 : ByteArray := prog_21_method_1_code
def yJ25_init_2 : MethodName := ⟨RJ25, "<init>", "()V"⟩
theorem dJ25_init_2_0 : decode cJ25_init_2 0 = .ok (.aload_n 0, 1) := by decide +kernel
theorem dJ25_init_2_1 : decode cJ25_init_2 1 = .ok (.invokespecial 1, 3) := by decide +kernel
theorem dJ25_init_2_4 : decode cJ25_init_2 4 = .ok (.return_, 1) := by decide +kernel
theorem q133 : (Jvm.Cond.initialized "java/lang/ArithmeticException") ∈ lw_all := lw_g (lw_at lw_m1 37 rfl) rfl
theorem q342 : (Jvm.Cond.selects "java/lang/ArithmeticException" ({ cls := "java/lang/Throwable", name := "fillInStackTrace", desc := "()Ljava/lang/Throwable;" } : Jvm.MethodName) ({ cls := "java/lang/Throwable", name := "fillInStackTrace", desc := "()Ljava/lang/Throwable;" } : Jvm.MethodName)) ∈ lw_all := lw_g (lw_at lw_m2 6 rfl) rfl
theorem q425 : (Jvm.Cond.selects "java/lang/ArithmeticException" ({ cls := "java/lang/Object", name := "getClass", desc := "()Ljava/lang/Class;" } : Jvm.MethodName) ({ cls := "java/lang/Object", name := "getClass", desc := "()Ljava/lang/Class;" } : Jvm.MethodName)) ∈ lw_all := lw_g (lw_at lw_m2 89 rfl) rfl
theorem q1227 : (Jvm.Cond.selects "java/lang/ArithmeticException" ({ cls := "java/lang/Object", name := "equals", desc := "(Ljava/lang/Object;)Z" } : Jvm.MethodName) ({ cls := "java/lang/Object", name := "equals", desc := "(Ljava/lang/Object;)Z" } : Jvm.MethodName)) ∈ lw_all := lw_g (lw_at lw_m5 171 rfl) rfl
theorem q1770 : (Jvm.Cond.instantiable "java/lang/ArithmeticException" (6 : Nat)) ∈ lw_all := lw_g (lw_at lw_m7 234 rfl) rfl
theorem q1771 : (Jvm.Cond.instanceMethod ({ cls := "java/lang/ArithmeticException", name := "<init>", desc := "(Ljava/lang/String;)V" } : Jvm.MethodName)) ∈ lw_all := lw_g (lw_at lw_m7 235 rfl) rfl
theorem q1772 : (Jvm.Cond.code ({ cls := "java/lang/ArithmeticException", name := "<init>", desc := "(Ljava/lang/String;)V" } : Jvm.MethodName) prog_21_method_2_code (2 : Nat) (Option.none : Option Jvm.ClassFile.FieldType)) ∈ lw_all := lw_g (lw_at lw_m7 236 rfl) rfl
theorem q1773 : (Jvm.Cond.methodLink "java/lang/ArithmeticException" (7 : Nat) ({ cls := "java/lang/RuntimeException", name := "<init>", desc := "(Ljava/lang/String;)V" } : Jvm.MethodName)) ∈ lw_all := lw_g (lw_at lw_m7 237 rfl) rfl
theorem q1774 : (Jvm.Cond.lays "java/lang/ArithmeticException" "java/lang/Throwable" "backtrace" "Ljava/lang/Object;") ∈ lw_all := lw_g (lw_at lw_m7 238 rfl) rfl
theorem q1775 : (Jvm.Cond.lays "java/lang/ArithmeticException" "java/lang/Throwable" "detailMessage" "Ljava/lang/String;") ∈ lw_all := lw_g (lw_at lw_m7 239 rfl) rfl
theorem q1776 : (Jvm.Cond.lays "java/lang/ArithmeticException" "java/lang/Throwable" "cause" "Ljava/lang/Throwable;") ∈ lw_all := lw_g (lw_at lw_m8 0 rfl) rfl
theorem q1777 : (Jvm.Cond.lays "java/lang/ArithmeticException" "java/lang/Throwable" "stackTrace" "[Ljava/lang/StackTraceElement;") ∈ lw_all := lw_g (lw_at lw_m8 1 rfl) rfl
theorem q1778 : (Jvm.Cond.lays "java/lang/ArithmeticException" "java/lang/Throwable" "depth" "I") ∈ lw_all := lw_g (lw_at lw_m8 2 rfl) rfl
theorem q1779 : (Jvm.Cond.lays "java/lang/ArithmeticException" "java/lang/Throwable" "suppressedExceptions" "Ljava/util/List;") ∈ lw_all := lw_g (lw_at lw_m8 3 rfl) rfl
theorem q1780 : (Jvm.Cond.superclass "java/lang/ArithmeticException" "java/lang/RuntimeException") ∈ lw_all := lw_g (lw_at lw_m8 4 rfl) rfl
theorem q1781 : (Jvm.Cond.castable "java/lang/ArithmeticException" "java/lang/ArithmeticException") ∈ lw_tbl := lw_at lw_m8 5 rfl
theorem q1782 : (Jvm.Cond.selects "java/lang/ArithmeticException" ({ cls := "java/lang/Throwable", name := "fillInStackTrace", desc := "(I)Ljava/lang/Throwable;" } : Jvm.MethodName) ({ cls := "java/lang/Throwable", name := "fillInStackTrace", desc := "(I)Ljava/lang/Throwable;" } : Jvm.MethodName)) ∈ lw_all := lw_g (lw_at lw_m8 6 rfl) rfl
theorem q1790 : (Jvm.Cond.instanceMethod ({ cls := "java/lang/ArithmeticException", name := "<init>", desc := "()V" } : Jvm.MethodName)) ∈ lw_all := lw_g (lw_at lw_m8 14 rfl) rfl
theorem q1791 : (Jvm.Cond.code ({ cls := "java/lang/ArithmeticException", name := "<init>", desc := "()V" } : Jvm.MethodName) prog_21_method_1_code (1 : Nat) (Option.none : Option Jvm.ClassFile.FieldType)) ∈ lw_all := lw_g (lw_at lw_m8 15 rfl) rfl
theorem q1792 : (Jvm.Cond.methodLink "java/lang/ArithmeticException" (1 : Nat) ({ cls := "java/lang/RuntimeException", name := "<init>", desc := "()V" } : Jvm.MethodName)) ∈ lw_all := lw_g (lw_at lw_m8 16 rfl) rfl
theorem q1827 : (Jvm.Cond.selects "java/lang/ArithmeticException" ({ cls := "java/lang/Throwable", name := "getCause", desc := "()Ljava/lang/Throwable;" } : Jvm.MethodName) ({ cls := "java/lang/Throwable", name := "getCause", desc := "()Ljava/lang/Throwable;" } : Jvm.MethodName)) ∈ lw_all := lw_g (lw_at lw_m8 51 rfl) rfl
theorem q2344 : (Jvm.Cond.castable "java/lang/ArithmeticException" "java/lang/Object") ∈ lw_tbl := lw_at lw_m10 88 rfl
theorem in_J25 : ∀ w ∈ wsJ250, w ∈ lw_all := lw_in wsJ250 [1774, 1775, 1776, 1777, 1778, 1779] (by decide +kernel) (by decide +kernel)
/-! java/lang/Object -/
set_option maxRecDepth 100000
def RJ26 : String := "java/lang/Object"
abbrev cJ26_init : ByteArray := object_method_1_code
def yJ26_init : MethodName := ⟨RJ26, "<init>", "()V"⟩
theorem dJ26_init_0 : decode cJ26_init 0 = .ok (.return_, 1) := by decide +kernel
abbrev cJ26_equals : ByteArray := object_method_4_code
def yJ26_equals : MethodName := ⟨RJ26, "equals", "(Ljava/lang/Object;)Z"⟩
def dkwJ26_equals_0 : List UInt8 := [42, 43, 166, 0, 7, 4, 167, 0, 4, 3, 172]
abbrev dktJ26_equals_0 : List UInt8 := dkwJ26_equals_0 ++ []
theorem dksJ26_equals_0 : cJ26_equals.data.toList.drop 0 = dktJ26_equals_0 := by decide +kernel
theorem dJ26_equals_0 : decode cJ26_equals 0 = .ok (.aload_n 0, 1) := dk_42 (dk_at dksJ26_equals_0 0 rfl rfl)
theorem dJ26_equals_1 : decode cJ26_equals 1 = .ok (.aload_n 1, 1) := dk_43 (dk_at dksJ26_equals_0 1 rfl rfl)
theorem dJ26_equals_2 : decode cJ26_equals 2 = .ok (.if_acmp .ne 7, 3) := dk_166 0 7 (dk_at dksJ26_equals_0 2 rfl rfl)
theorem dJ26_equals_5 : decode cJ26_equals 5 = .ok (.iconst 1, 1) := dk_4 (dk_at dksJ26_equals_0 5 rfl rfl)
theorem dJ26_equals_6 : decode cJ26_equals 6 = .ok (.goto 4, 3) := dk_167 0 4 (dk_at dksJ26_equals_0 6 rfl rfl)
theorem dJ26_equals_9 : decode cJ26_equals 9 = .ok (.iconst 0, 1) := dk_3 (dk_at dksJ26_equals_0 9 rfl rfl)
theorem dJ26_equals_10 : decode cJ26_equals 10 = .ok (.ireturn, 1) := dk_172 (dk_at dksJ26_equals_0 10 rfl rfl)
theorem q147 : (Jvm.Cond.instanceMethod ({ cls := "java/lang/Object", name := "<init>", desc := "()V" } : Jvm.MethodName)) ∈ lw_all := lw_g (lw_at lw_m1 51 rfl) rfl
theorem q148 : (Jvm.Cond.code ({ cls := "java/lang/Object", name := "<init>", desc := "()V" } : Jvm.MethodName) object_method_1_code (1 : Nat) (Option.none : Option Jvm.ClassFile.FieldType)) ∈ lw_all := lw_g (lw_at lw_m1 52 rfl) rfl
theorem q408 : (Jvm.Cond.instanceMethod ({ cls := "java/lang/Object", name := "getClass", desc := "()Ljava/lang/Class;" } : Jvm.MethodName)) ∈ lw_all := lw_g (lw_at lw_m2 72 rfl) rfl
theorem q409 : (Jvm.Cond.sameMethod "java/lang/Object" "java/lang/Object" "getClass" "()Ljava/lang/Class;") ∈ lw_all := lw_g (lw_at lw_m2 73 rfl) rfl
theorem q437 : (Jvm.Cond.native ({ cls := "java/lang/Object", name := "getClass", desc := "()Ljava/lang/Class;" } : Jvm.MethodName)) ∈ lw_all := lw_g (lw_at lw_m2 101 rfl) rfl
theorem q807 : (Jvm.Cond.native ({ cls := "java/lang/Object", name := "clone", desc := "()Ljava/lang/Object;" } : Jvm.MethodName)) ∈ lw_all := lw_g (lw_at lw_m3 231 rfl) rfl
theorem q808 : (Jvm.Cond.instanceMethod ({ cls := "java/lang/Object", name := "clone", desc := "()Ljava/lang/Object;" } : Jvm.MethodName)) ∈ lw_all := lw_g (lw_at lw_m3 232 rfl) rfl
theorem q1208 : (Jvm.Cond.declares ({ cls := "java/lang/Object", name := "equals", desc := "(Ljava/lang/Object;)Z" } : Jvm.MethodName)) ∈ lw_tbl := lw_at lw_m5 152 rfl
theorem q1210 : (Jvm.Cond.instanceMethod ({ cls := "java/lang/Object", name := "equals", desc := "(Ljava/lang/Object;)Z" } : Jvm.MethodName)) ∈ lw_all := lw_g (lw_at lw_m5 154 rfl) rfl
theorem q1211 : (Jvm.Cond.sameMethod "java/lang/Object" "java/lang/Object" "equals" "(Ljava/lang/Object;)Z") ∈ lw_all := lw_g (lw_at lw_m5 155 rfl) rfl
theorem q1239 : (Jvm.Cond.code ({ cls := "java/lang/Object", name := "equals", desc := "(Ljava/lang/Object;)Z" } : Jvm.MethodName) object_method_4_code (2 : Nat) (Option.some Jvm.ClassFile.FieldType.boolean)) ∈ lw_all := lw_g (lw_at lw_m5 183 rfl) rfl
theorem q2318 : (Jvm.Cond.initialized "java/lang/Object") ∈ lw_all := lw_g (lw_at lw_m10 62 rfl) rfl
theorem q2354 : (Jvm.Cond.declares ({ cls := "java/lang/Object", name := "getClass", desc := "()Ljava/lang/Class;" } : Jvm.MethodName)) ∈ lw_tbl := lw_at lw_m10 98 rfl

