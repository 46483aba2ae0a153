/-! CameraMoves -/
set_option maxRecDepth 100000
def RX1 : String := "CameraMoves"
def TX1 : u_T := fun k => match k with
  | 0 => ("CameraMoves", "plan", "LCameraMoves$Plan;", false)
  | 1 => ("CameraMoves", "film", "LCameraMoves$Film;", true)
  | 2 => ("CameraMoves", "history", "Ljava/util/ArrayDeque;", true)
  | 3 => ("CameraMoves", "buffer", "[B", true)
  | 4 => ("CameraMoves", "length", "I", false)
  | 5 => ("CameraMoves", "errorOffset", "I", false)
  | _ => ("CameraMoves", "formatted", "Ljava/lang/StringBuilder;", true)
def tyX1 : Nat → FieldType := fun k => match k with
  | 0 => .object "CameraMoves$Plan"
  | 1 => .object "CameraMoves$Film"
  | 2 => .object "java/util/ArrayDeque"
  | 3 => .array .byte
  | 4 => .int
  | 5 => .int
  | _ => .object "java/lang/StringBuilder"
abbrev wsX10 : List Cond := u_ws RX1 TX1 7
theorem nmX1 : ∀ a, a < 7 → ∀ b, b < 7 → a ≠ b → (TX1 a).2.1 ≠ (TX1 b).2.1 := by decide +kernel
theorem tyX1_ok : ∀ k, k < 7 → parseFieldDescriptor (TX1 k).2.2.1 = some (tyX1 k) := by decide +kernel
abbrev cX1_init : ByteArray := prog_1_method_8_code
def yX1_init : MethodName := ⟨RX1, "<init>", "()V"⟩
def dkwX1_init_3 : List UInt8 := [177]
abbrev dktX1_init_3 : List UInt8 := dkwX1_init_3 ++ []
def dkwX1_init_2 : List UInt8 := [17, 2, 88, 188, 8, 181, 0, 57, 42, 2, 181, 0, 61, 42, 187, 0, 65, 89, 183, 0, 67, 181, 0, 68]
abbrev dktX1_init_2 : List UInt8 := dkwX1_init_2 ++ dktX1_init_3
def dkwX1_init_1 : List UInt8 := [187, 0, 43, 89, 183, 0, 45, 181, 0, 46, 42, 187, 0, 50, 89, 183, 0, 52, 181, 0, 53, 42]
abbrev dktX1_init_1 : List UInt8 := dkwX1_init_1 ++ dktX1_init_2
def dkwX1_init_0 : List UInt8 := [42, 183, 0, 26, 42, 187, 0, 29, 89, 187, 0, 31, 89, 7, 183, 0, 33, 183, 0, 36, 181, 0, 39, 42]
abbrev dktX1_init_0 : List UInt8 := dkwX1_init_0 ++ dktX1_init_1
theorem dksX1_init_0 : cX1_init.data.toList.drop 0 = dktX1_init_0 := by decide +kernel
theorem dksX1_init_1 : cX1_init.data.toList.drop 24 = dktX1_init_1 := dk_seg dksX1_init_0 24 rfl rfl
theorem dksX1_init_2 : cX1_init.data.toList.drop 46 = dktX1_init_2 := dk_seg dksX1_init_1 22 rfl rfl
theorem dksX1_init_3 : cX1_init.data.toList.drop 70 = dktX1_init_3 := dk_seg dksX1_init_2 24 rfl rfl
theorem dX1_init_0 : decode cX1_init 0 = .ok (.aload_n 0, 1) := dk_42 (dk_at dksX1_init_0 0 rfl rfl)
theorem dX1_init_1 : decode cX1_init 1 = .ok (.invokespecial 26, 3) := dk_183 0 26 (dk_at dksX1_init_0 1 rfl rfl)
theorem dX1_init_4 : decode cX1_init 4 = .ok (.aload_n 0, 1) := dk_42 (dk_at dksX1_init_0 4 rfl rfl)
theorem dX1_init_5 : decode cX1_init 5 = .ok (.new 29, 3) := dk_187 0 29 (dk_at dksX1_init_0 5 rfl rfl)
theorem dX1_init_8 : decode cX1_init 8 = .ok (.dup, 1) := dk_89 (dk_at dksX1_init_0 8 rfl rfl)
theorem dX1_init_9 : decode cX1_init 9 = .ok (.new 31, 3) := dk_187 0 31 (dk_at dksX1_init_0 9 rfl rfl)
theorem dX1_init_12 : decode cX1_init 12 = .ok (.dup, 1) := dk_89 (dk_at dksX1_init_0 12 rfl rfl)
theorem dX1_init_13 : decode cX1_init 13 = .ok (.iconst 4, 1) := dk_7 (dk_at dksX1_init_0 13 rfl rfl)
theorem dX1_init_14 : decode cX1_init 14 = .ok (.invokespecial 33, 3) := dk_183 0 33 (dk_at dksX1_init_0 14 rfl rfl)
theorem dX1_init_17 : decode cX1_init 17 = .ok (.invokespecial 36, 3) := dk_183 0 36 (dk_at dksX1_init_0 17 rfl rfl)
theorem dX1_init_20 : decode cX1_init 20 = .ok (.putfield 39, 3) := dk_181 0 39 (dk_at dksX1_init_0 20 rfl rfl)
theorem dX1_init_23 : decode cX1_init 23 = .ok (.aload_n 0, 1) := dk_42 (dk_at dksX1_init_0 23 rfl rfl)
theorem dX1_init_24 : decode cX1_init 24 = .ok (.new 43, 3) := dk_187 0 43 (dk_at dksX1_init_1 0 rfl rfl)
theorem dX1_init_27 : decode cX1_init 27 = .ok (.dup, 1) := dk_89 (dk_at dksX1_init_1 3 rfl rfl)
theorem dX1_init_28 : decode cX1_init 28 = .ok (.invokespecial 45, 3) := dk_183 0 45 (dk_at dksX1_init_1 4 rfl rfl)
theorem dX1_init_31 : decode cX1_init 31 = .ok (.putfield 46, 3) := dk_181 0 46 (dk_at dksX1_init_1 7 rfl rfl)
theorem dX1_init_34 : decode cX1_init 34 = .ok (.aload_n 0, 1) := dk_42 (dk_at dksX1_init_1 10 rfl rfl)
theorem dX1_init_35 : decode cX1_init 35 = .ok (.new 50, 3) := dk_187 0 50 (dk_at dksX1_init_1 11 rfl rfl)
theorem dX1_init_38 : decode cX1_init 38 = .ok (.dup, 1) := dk_89 (dk_at dksX1_init_1 14 rfl rfl)
theorem dX1_init_39 : decode cX1_init 39 = .ok (.invokespecial 52, 3) := dk_183 0 52 (dk_at dksX1_init_1 15 rfl rfl)
theorem dX1_init_42 : decode cX1_init 42 = .ok (.putfield 53, 3) := dk_181 0 53 (dk_at dksX1_init_1 18 rfl rfl)
theorem dX1_init_45 : decode cX1_init 45 = .ok (.aload_n 0, 1) := dk_42 (dk_at dksX1_init_1 21 rfl rfl)
theorem dX1_init_46 : decode cX1_init 46 = .ok (.sipush 600, 3) := dk_17 2 88 (dk_at dksX1_init_2 0 rfl rfl)
theorem dX1_init_49 : decode cX1_init 49 = .ok (.newarray .byte, 2) := dk_188_8 (dk_at dksX1_init_2 3 rfl rfl)
theorem dX1_init_51 : decode cX1_init 51 = .ok (.putfield 57, 3) := dk_181 0 57 (dk_at dksX1_init_2 5 rfl rfl)
theorem dX1_init_54 : decode cX1_init 54 = .ok (.aload_n 0, 1) := dk_42 (dk_at dksX1_init_2 8 rfl rfl)
theorem dX1_init_55 : decode cX1_init 55 = .ok (.iconst (-1), 1) := dk_2 (dk_at dksX1_init_2 9 rfl rfl)
theorem dX1_init_56 : decode cX1_init 56 = .ok (.putfield 61, 3) := dk_181 0 61 (dk_at dksX1_init_2 10 rfl rfl)
theorem dX1_init_59 : decode cX1_init 59 = .ok (.aload_n 0, 1) := dk_42 (dk_at dksX1_init_2 13 rfl rfl)
theorem dX1_init_60 : decode cX1_init 60 = .ok (.new 65, 3) := dk_187 0 65 (dk_at dksX1_init_2 14 rfl rfl)
theorem dX1_init_63 : decode cX1_init 63 = .ok (.dup, 1) := dk_89 (dk_at dksX1_init_2 17 rfl rfl)
theorem dX1_init_64 : decode cX1_init 64 = .ok (.invokespecial 67, 3) := dk_183 0 67 (dk_at dksX1_init_2 18 rfl rfl)
theorem dX1_init_67 : decode cX1_init 67 = .ok (.putfield 68, 3) := dk_181 0 68 (dk_at dksX1_init_2 21 rfl rfl)
theorem dX1_init_70 : decode cX1_init 70 = .ok (.return_, 1) := dk_177 (dk_at dksX1_init_3 0 rfl rfl)
abbrev cX1_errorOffset : ByteArray := prog_1_method_13_code
def yX1_errorOffset : MethodName := ⟨RX1, "errorOffset", "()I"⟩
theorem dX1_errorOffset_0 : decode cX1_errorOffset 0 = .ok (.aload_n 0, 1) := by decide +kernel
theorem dX1_errorOffset_1 : decode cX1_errorOffset 1 = .ok (.getfield 61, 3) := by decide +kernel
theorem dX1_errorOffset_4 : decode cX1_errorOffset 4 = .ok (.ireturn, 1) := by decide +kernel
abbrev cX1_withStatus : ByteArray := prog_1_method_33_code
def yX1_withStatus : MethodName := ⟨RX1, "withStatus", "(I)I"⟩
def dkwX1_withStatus_1 : List UInt8 := [172]
abbrev dktX1_withStatus_1 : List UInt8 := dkwX1_withStatus_1 ++ []
def dkwX1_withStatus_0 : List UInt8 := [27, 133, 9, 20, 0, 231, 184, 0, 15, 153, 0, 14, 42, 182, 0, 221, 27, 182, 0, 233, 167, 0, 4, 3]
abbrev dktX1_withStatus_0 : List UInt8 := dkwX1_withStatus_0 ++ dktX1_withStatus_1
theorem dksX1_withStatus_0 : cX1_withStatus.data.toList.drop 0 = dktX1_withStatus_0 := by decide +kernel
theorem dksX1_withStatus_1 : cX1_withStatus.data.toList.drop 24 = dktX1_withStatus_1 := dk_seg dksX1_withStatus_0 24 rfl rfl
theorem dX1_withStatus_0 : decode cX1_withStatus 0 = .ok (.iload_n 1, 1) := dk_27 (dk_at dksX1_withStatus_0 0 rfl rfl)
theorem dX1_withStatus_1 : decode cX1_withStatus 1 = .ok (.i2l, 1) := dk_133 (dk_at dksX1_withStatus_0 1 rfl rfl)
theorem dX1_withStatus_2 : decode cX1_withStatus 2 = .ok (.lconst 0, 1) := dk_9 (dk_at dksX1_withStatus_0 2 rfl rfl)
theorem dX1_withStatus_3 : decode cX1_withStatus 3 = .ok (.ldc2_w 231, 3) := dk_20 0 231 (dk_at dksX1_withStatus_0 3 rfl rfl)
theorem dX1_withStatus_6 : decode cX1_withStatus 6 = .ok (.invokestatic 15, 3) := dk_184 0 15 (dk_at dksX1_withStatus_0 6 rfl rfl)
theorem dX1_withStatus_9 : decode cX1_withStatus 9 = .ok (.ifCond .eq 14, 3) := dk_153 0 14 (dk_at dksX1_withStatus_0 9 rfl rfl)
theorem dX1_withStatus_12 : decode cX1_withStatus 12 = .ok (.aload_n 0, 1) := dk_42 (dk_at dksX1_withStatus_0 12 rfl rfl)
theorem dX1_withStatus_13 : decode cX1_withStatus 13 = .ok (.invokevirtual 221, 3) := dk_182 0 221 (dk_at dksX1_withStatus_0 13 rfl rfl)
theorem dX1_withStatus_16 : decode cX1_withStatus 16 = .ok (.iload_n 1, 1) := dk_27 (dk_at dksX1_withStatus_0 16 rfl rfl)
theorem dX1_withStatus_17 : decode cX1_withStatus 17 = .ok (.invokevirtual 233, 3) := dk_182 0 233 (dk_at dksX1_withStatus_0 17 rfl rfl)
theorem dX1_withStatus_20 : decode cX1_withStatus 20 = .ok (.goto 4, 3) := dk_167 0 4 (dk_at dksX1_withStatus_0 20 rfl rfl)
theorem dX1_withStatus_23 : decode cX1_withStatus 23 = .ok (.iconst 0, 1) := dk_3 (dk_at dksX1_withStatus_0 23 rfl rfl)
theorem dX1_withStatus_24 : decode cX1_withStatus 24 = .ok (.ireturn, 1) := dk_172 (dk_at dksX1_withStatus_1 0 rfl rfl)
abbrev cX1_in : ByteArray := prog_1_method_1_code
def yX1_in : MethodName := ⟨RX1, "in", "(JJJ)Z"⟩
def dkwX1_in_0 : List UInt8 := [30, 32, 148, 155, 0, 14, 30, 22, 4, 148, 157, 0, 7, 4, 167, 0, 4, 3, 172]
abbrev dktX1_in_0 : List UInt8 := dkwX1_in_0 ++ []
theorem dksX1_in_0 : cX1_in.data.toList.drop 0 = dktX1_in_0 := by decide +kernel
theorem dX1_in_0 : decode cX1_in 0 = .ok (.lload_n 0, 1) := dk_30 (dk_at dksX1_in_0 0 rfl rfl)
theorem dX1_in_1 : decode cX1_in 1 = .ok (.lload_n 2, 1) := dk_32 (dk_at dksX1_in_0 1 rfl rfl)
theorem dX1_in_2 : decode cX1_in 2 = .ok (.lcmp, 1) := dk_148 (dk_at dksX1_in_0 2 rfl rfl)
theorem dX1_in_3 : decode cX1_in 3 = .ok (.ifCond .lt 14, 3) := dk_155 0 14 (dk_at dksX1_in_0 3 rfl rfl)
theorem dX1_in_6 : decode cX1_in 6 = .ok (.lload_n 0, 1) := dk_30 (dk_at dksX1_in_0 6 rfl rfl)
theorem dX1_in_7 : decode cX1_in 7 = .ok (.lload 4, 2) := dk_22 4 (dk_at dksX1_in_0 7 rfl rfl)
theorem dX1_in_9 : decode cX1_in 9 = .ok (.lcmp, 1) := dk_148 (dk_at dksX1_in_0 9 rfl rfl)
theorem dX1_in_10 : decode cX1_in 10 = .ok (.ifCond .gt 7, 3) := dk_157 0 7 (dk_at dksX1_in_0 10 rfl rfl)
theorem dX1_in_13 : decode cX1_in 13 = .ok (.iconst 1, 1) := dk_4 (dk_at dksX1_in_0 13 rfl rfl)
theorem dX1_in_14 : decode cX1_in 14 = .ok (.goto 4, 3) := dk_167 0 4 (dk_at dksX1_in_0 14 rfl rfl)
theorem dX1_in_17 : decode cX1_in 17 = .ok (.iconst 0, 1) := dk_3 (dk_at dksX1_in_0 17 rfl rfl)
theorem dX1_in_18 : decode cX1_in 18 = .ok (.ireturn, 1) := dk_172 (dk_at dksX1_in_0 18 rfl rfl)
abbrev cX1_moves : ByteArray := prog_1_method_29_code
def yX1_moves : MethodName := ⟨RX1, "moves", "()LCameraMoves$Film;"⟩
def dkwX1_moves_0 : List UInt8 := [42, 180, 0, 46, 42, 180, 0, 39, 182, 0, 214, 176]
abbrev dktX1_moves_0 : List UInt8 := dkwX1_moves_0 ++ []
theorem dksX1_moves_0 : cX1_moves.data.toList.drop 0 = dktX1_moves_0 := by decide +kernel
theorem dX1_moves_0 : decode cX1_moves 0 = .ok (.aload_n 0, 1) := dk_42 (dk_at dksX1_moves_0 0 rfl rfl)
theorem dX1_moves_1 : decode cX1_moves 1 = .ok (.getfield 46, 3) := dk_180 0 46 (dk_at dksX1_moves_0 1 rfl rfl)
theorem dX1_moves_4 : decode cX1_moves 4 = .ok (.aload_n 0, 1) := dk_42 (dk_at dksX1_moves_0 4 rfl rfl)
theorem dX1_moves_5 : decode cX1_moves 5 = .ok (.getfield 39, 3) := dk_180 0 39 (dk_at dksX1_moves_0 5 rfl rfl)
theorem dX1_moves_8 : decode cX1_moves 8 = .ok (.invokevirtual 214, 3) := dk_182 0 214 (dk_at dksX1_moves_0 8 rfl rfl)
theorem dX1_moves_11 : decode cX1_moves 11 = .ok (.areturn, 1) := dk_176 (dk_at dksX1_moves_0 11 rfl rfl)
abbrev cX1_has : ByteArray := prog_1_method_2_code
def yX1_has : MethodName := ⟨RX1, "has", "(II)Z"⟩
def dkwX1_has_0 : List UInt8 := [26, 27, 122, 4, 126, 4, 160, 0, 7, 4, 167, 0, 4, 3, 172]
abbrev dktX1_has_0 : List UInt8 := dkwX1_has_0 ++ []
theorem dksX1_has_0 : cX1_has.data.toList.drop 0 = dktX1_has_0 := by decide +kernel
theorem dX1_has_0 : decode cX1_has 0 = .ok (.iload_n 0, 1) := dk_26 (dk_at dksX1_has_0 0 rfl rfl)
theorem dX1_has_1 : decode cX1_has 1 = .ok (.iload_n 1, 1) := dk_27 (dk_at dksX1_has_0 1 rfl rfl)
theorem dX1_has_2 : decode cX1_has 2 = .ok (.ishr, 1) := dk_122 (dk_at dksX1_has_0 2 rfl rfl)
theorem dX1_has_3 : decode cX1_has 3 = .ok (.iconst 1, 1) := dk_4 (dk_at dksX1_has_0 3 rfl rfl)
theorem dX1_has_4 : decode cX1_has 4 = .ok (.iand, 1) := dk_126 (dk_at dksX1_has_0 4 rfl rfl)
theorem dX1_has_5 : decode cX1_has 5 = .ok (.iconst 1, 1) := dk_4 (dk_at dksX1_has_0 5 rfl rfl)
theorem dX1_has_6 : decode cX1_has 6 = .ok (.if_icmp .ne 7, 3) := dk_160 0 7 (dk_at dksX1_has_0 6 rfl rfl)
theorem dX1_has_9 : decode cX1_has 9 = .ok (.iconst 1, 1) := dk_4 (dk_at dksX1_has_0 9 rfl rfl)
theorem dX1_has_10 : decode cX1_has 10 = .ok (.goto 4, 3) := dk_167 0 4 (dk_at dksX1_has_0 10 rfl rfl)
theorem dX1_has_13 : decode cX1_has 13 = .ok (.iconst 0, 1) := dk_3 (dk_at dksX1_has_0 13 rfl rfl)
theorem dX1_has_14 : decode cX1_has 14 = .ok (.ireturn, 1) := dk_172 (dk_at dksX1_has_0 14 rfl rfl)
abbrev cX1_requireElement : ByteArray := prog_1_method_5_code
def yX1_requireElement : MethodName := ⟨RX1, "requireElement", "(Z)V"⟩
def dkwX1_requireElement_0 : List UInt8 := [26, 154, 0, 11, 187, 0, 12, 89, 183, 0, 14, 191, 177]
abbrev dktX1_requireElement_0 : List UInt8 := dkwX1_requireElement_0 ++ []
theorem dksX1_requireElement_0 : cX1_requireElement.data.toList.drop 0 = dktX1_requireElement_0 := by decide +kernel
theorem dX1_requireElement_0 : decode cX1_requireElement 0 = .ok (.iload_n 0, 1) := dk_26 (dk_at dksX1_requireElement_0 0 rfl rfl)
theorem dX1_requireElement_1 : decode cX1_requireElement 1 = .ok (.ifCond .ne 11, 3) := dk_154 0 11 (dk_at dksX1_requireElement_0 1 rfl rfl)
theorem dX1_requireElement_4 : decode cX1_requireElement 4 = .ok (.new 12, 3) := dk_187 0 12 (dk_at dksX1_requireElement_0 4 rfl rfl)
theorem dX1_requireElement_7 : decode cX1_requireElement 7 = .ok (.dup, 1) := dk_89 (dk_at dksX1_requireElement_0 7 rfl rfl)
theorem dX1_requireElement_8 : decode cX1_requireElement 8 = .ok (.invokespecial 14, 3) := dk_183 0 14 (dk_at dksX1_requireElement_0 8 rfl rfl)
theorem dX1_requireElement_11 : decode cX1_requireElement 11 = .ok (.athrow, 1) := dk_191 (dk_at dksX1_requireElement_0 11 rfl rfl)
theorem dX1_requireElement_12 : decode cX1_requireElement 12 = .ok (.return_, 1) := dk_177 (dk_at dksX1_requireElement_0 12 rfl rfl)
abbrev cX1_end : ByteArray := prog_1_method_40_code
def yX1_end : MethodName := ⟨RX1, "end", "()I"⟩
def dkwX1_end_0 : List UInt8 := [42, 182, 0, 246, 184, 1, 2, 172]
abbrev dktX1_end_0 : List UInt8 := dkwX1_end_0 ++ []
theorem dksX1_end_0 : cX1_end.data.toList.drop 0 = dktX1_end_0 := by decide +kernel
theorem dX1_end_0 : decode cX1_end 0 = .ok (.aload_n 0, 1) := dk_42 (dk_at dksX1_end_0 0 rfl rfl)
theorem dX1_end_1 : decode cX1_end 1 = .ok (.invokevirtual 246, 3) := dk_182 0 246 (dk_at dksX1_end_0 1 rfl rfl)
theorem dX1_end_4 : decode cX1_end 4 = .ok (.invokestatic 258, 3) := dk_184 1 2 (dk_at dksX1_end_0 4 rfl rfl)
theorem dX1_end_7 : decode cX1_end 7 = .ok (.ireturn, 1) := dk_172 (dk_at dksX1_end_0 7 rfl rfl)
abbrev cX1_positions : ByteArray := prog_1_method_30_code
def yX1_positions : MethodName := ⟨RX1, "positions", "()LCameraMoves$Film;"⟩
def dkwX1_positions_0 : List UInt8 := [42, 180, 0, 46, 42, 180, 0, 39, 182, 0, 218, 176]
abbrev dktX1_positions_0 : List UInt8 := dkwX1_positions_0 ++ []
theorem dksX1_positions_0 : cX1_positions.data.toList.drop 0 = dktX1_positions_0 := by decide +kernel
theorem dX1_positions_0 : decode cX1_positions 0 = .ok (.aload_n 0, 1) := dk_42 (dk_at dksX1_positions_0 0 rfl rfl)
theorem dX1_positions_1 : decode cX1_positions 1 = .ok (.getfield 46, 3) := dk_180 0 46 (dk_at dksX1_positions_0 1 rfl rfl)
theorem dX1_positions_4 : decode cX1_positions 4 = .ok (.aload_n 0, 1) := dk_42 (dk_at dksX1_positions_0 4 rfl rfl)
theorem dX1_positions_5 : decode cX1_positions 5 = .ok (.getfield 39, 3) := dk_180 0 39 (dk_at dksX1_positions_0 5 rfl rfl)
theorem dX1_positions_8 : decode cX1_positions 8 = .ok (.invokevirtual 218, 3) := dk_182 0 218 (dk_at dksX1_positions_0 8 rfl rfl)
theorem dX1_positions_11 : decode cX1_positions 11 = .ok (.areturn, 1) := dk_176 (dk_at dksX1_positions_0 11 rfl rfl)
abbrev cX1_end_2 : ByteArray := prog_1_method_39_code
def yX1_end_2 : MethodName := ⟨RX1, "end", "(LCameraMoves$Film;)I"⟩
def dkwX1_end_2_0 : List UInt8 := [17, 3, 231, 60, 27, 158, 0, 17, 42, 27, 182, 0, 255, 154, 0, 9, 132, 1, 255, 167, 255, 241, 27, 172]
abbrev dktX1_end_2_0 : List UInt8 := dkwX1_end_2_0 ++ []
theorem dksX1_end_2_0 : cX1_end_2.data.toList.drop 0 = dktX1_end_2_0 := by decide +kernel
theorem dX1_end_2_0 : decode cX1_end_2 0 = .ok (.sipush 999, 3) := dk_17 3 231 (dk_at dksX1_end_2_0 0 rfl rfl)
theorem dX1_end_2_3 : decode cX1_end_2 3 = .ok (.istore_n 1, 1) := dk_60 (dk_at dksX1_end_2_0 3 rfl rfl)
theorem dX1_end_2_4 : decode cX1_end_2 4 = .ok (.iload_n 1, 1) := dk_27 (dk_at dksX1_end_2_0 4 rfl rfl)
theorem dX1_end_2_5 : decode cX1_end_2 5 = .ok (.ifCond .le 17, 3) := dk_158 0 17 (dk_at dksX1_end_2_0 5 rfl rfl)
theorem dX1_end_2_8 : decode cX1_end_2 8 = .ok (.aload_n 0, 1) := dk_42 (dk_at dksX1_end_2_0 8 rfl rfl)
theorem dX1_end_2_9 : decode cX1_end_2 9 = .ok (.iload_n 1, 1) := dk_27 (dk_at dksX1_end_2_0 9 rfl rfl)
theorem dX1_end_2_10 : decode cX1_end_2 10 = .ok (.invokevirtual 255, 3) := dk_182 0 255 (dk_at dksX1_end_2_0 10 rfl rfl)
theorem dX1_end_2_13 : decode cX1_end_2 13 = .ok (.ifCond .ne 9, 3) := dk_154 0 9 (dk_at dksX1_end_2_0 13 rfl rfl)
theorem dX1_end_2_16 : decode cX1_end_2 16 = .ok (.iinc 1 (-1), 3) := dk_132 1 255 (dk_at dksX1_end_2_0 16 rfl rfl)
theorem dX1_end_2_19 : decode cX1_end_2 19 = .ok (.goto (-15), 3) := dk_167 255 241 (dk_at dksX1_end_2_0 19 rfl rfl)
theorem dX1_end_2_22 : decode cX1_end_2 22 = .ok (.iload_n 1, 1) := dk_27 (dk_at dksX1_end_2_0 22 rfl rfl)
theorem dX1_end_2_23 : decode cX1_end_2 23 = .ok (.ireturn, 1) := dk_172 (dk_at dksX1_end_2_0 23 rfl rfl)
abbrev cX1_stillFrames : ByteArray := prog_1_method_41_code
def yX1_stillFrames : MethodName := ⟨RX1, "stillFrames", "()I"⟩
def dkwX1_stillFrames_1 : List UInt8 := [154, 0, 7, 4, 167, 0, 4, 3, 96, 61, 132, 3, 255, 167, 255, 233, 28, 172]
abbrev dktX1_stillFrames_1 : List UInt8 := dkwX1_stillFrames_1 ++ []
def dkwX1_stillFrames_0 : List UInt8 := [42, 182, 0, 246, 76, 3, 61, 43, 184, 1, 2, 62, 29, 158, 0, 25, 28, 43, 29, 182, 0, 255]
abbrev dktX1_stillFrames_0 : List UInt8 := dkwX1_stillFrames_0 ++ dktX1_stillFrames_1
theorem dksX1_stillFrames_0 : cX1_stillFrames.data.toList.drop 0 = dktX1_stillFrames_0 := by decide +kernel
theorem dksX1_stillFrames_1 : cX1_stillFrames.data.toList.drop 22 = dktX1_stillFrames_1 := dk_seg dksX1_stillFrames_0 22 rfl rfl
theorem dX1_stillFrames_0 : decode cX1_stillFrames 0 = .ok (.aload_n 0, 1) := dk_42 (dk_at dksX1_stillFrames_0 0 rfl rfl)
theorem dX1_stillFrames_1 : decode cX1_stillFrames 1 = .ok (.invokevirtual 246, 3) := dk_182 0 246 (dk_at dksX1_stillFrames_0 1 rfl rfl)
theorem dX1_stillFrames_4 : decode cX1_stillFrames 4 = .ok (.astore_n 1, 1) := dk_76 (dk_at dksX1_stillFrames_0 4 rfl rfl)
theorem dX1_stillFrames_5 : decode cX1_stillFrames 5 = .ok (.iconst 0, 1) := dk_3 (dk_at dksX1_stillFrames_0 5 rfl rfl)
theorem dX1_stillFrames_6 : decode cX1_stillFrames 6 = .ok (.istore_n 2, 1) := dk_61 (dk_at dksX1_stillFrames_0 6 rfl rfl)
theorem dX1_stillFrames_7 : decode cX1_stillFrames 7 = .ok (.aload_n 1, 1) := dk_43 (dk_at dksX1_stillFrames_0 7 rfl rfl)
theorem dX1_stillFrames_8 : decode cX1_stillFrames 8 = .ok (.invokestatic 258, 3) := dk_184 1 2 (dk_at dksX1_stillFrames_0 8 rfl rfl)
theorem dX1_stillFrames_11 : decode cX1_stillFrames 11 = .ok (.istore_n 3, 1) := dk_62 (dk_at dksX1_stillFrames_0 11 rfl rfl)
theorem dX1_stillFrames_12 : decode cX1_stillFrames 12 = .ok (.iload_n 3, 1) := dk_29 (dk_at dksX1_stillFrames_0 12 rfl rfl)
theorem dX1_stillFrames_13 : decode cX1_stillFrames 13 = .ok (.ifCond .le 25, 3) := dk_158 0 25 (dk_at dksX1_stillFrames_0 13 rfl rfl)
theorem dX1_stillFrames_16 : decode cX1_stillFrames 16 = .ok (.iload_n 2, 1) := dk_28 (dk_at dksX1_stillFrames_0 16 rfl rfl)
theorem dX1_stillFrames_17 : decode cX1_stillFrames 17 = .ok (.aload_n 1, 1) := dk_43 (dk_at dksX1_stillFrames_0 17 rfl rfl)
theorem dX1_stillFrames_18 : decode cX1_stillFrames 18 = .ok (.iload_n 3, 1) := dk_29 (dk_at dksX1_stillFrames_0 18 rfl rfl)
theorem dX1_stillFrames_19 : decode cX1_stillFrames 19 = .ok (.invokevirtual 255, 3) := dk_182 0 255 (dk_at dksX1_stillFrames_0 19 rfl rfl)
theorem dX1_stillFrames_22 : decode cX1_stillFrames 22 = .ok (.ifCond .ne 7, 3) := dk_154 0 7 (dk_at dksX1_stillFrames_1 0 rfl rfl)
theorem dX1_stillFrames_25 : decode cX1_stillFrames 25 = .ok (.iconst 1, 1) := dk_4 (dk_at dksX1_stillFrames_1 3 rfl rfl)
theorem dX1_stillFrames_26 : decode cX1_stillFrames 26 = .ok (.goto 4, 3) := dk_167 0 4 (dk_at dksX1_stillFrames_1 4 rfl rfl)
theorem dX1_stillFrames_29 : decode cX1_stillFrames 29 = .ok (.iconst 0, 1) := dk_3 (dk_at dksX1_stillFrames_1 7 rfl rfl)
theorem dX1_stillFrames_30 : decode cX1_stillFrames 30 = .ok (.iadd, 1) := dk_96 (dk_at dksX1_stillFrames_1 8 rfl rfl)
theorem dX1_stillFrames_31 : decode cX1_stillFrames 31 = .ok (.istore_n 2, 1) := dk_61 (dk_at dksX1_stillFrames_1 9 rfl rfl)
theorem dX1_stillFrames_32 : decode cX1_stillFrames 32 = .ok (.iinc 3 (-1), 3) := dk_132 3 255 (dk_at dksX1_stillFrames_1 10 rfl rfl)
theorem dX1_stillFrames_35 : decode cX1_stillFrames 35 = .ok (.goto (-23), 3) := dk_167 255 233 (dk_at dksX1_stillFrames_1 13 rfl rfl)
theorem dX1_stillFrames_38 : decode cX1_stillFrames 38 = .ok (.iload_n 2, 1) := dk_28 (dk_at dksX1_stillFrames_1 16 rfl rfl)
theorem dX1_stillFrames_39 : decode cX1_stillFrames 39 = .ok (.ireturn, 1) := dk_172 (dk_at dksX1_stillFrames_1 17 rfl rfl)
abbrev cX1_firstHit : ByteArray := prog_1_method_46_code
def yX1_firstHit : MethodName := ⟨RX1, "firstHit", "()I"⟩
def dkwX1_firstHit_1 : List UInt8 := [132, 2, 1, 167, 255, 236, 2, 172]
abbrev dktX1_firstHit_1 : List UInt8 := dkwX1_firstHit_1 ++ []
def dkwX1_firstHit_0 : List UInt8 := [42, 182, 0, 246, 76, 3, 61, 28, 17, 3, 231, 163, 0, 19, 43, 28, 182, 1, 21, 153, 0, 5, 28, 172]
abbrev dktX1_firstHit_0 : List UInt8 := dkwX1_firstHit_0 ++ dktX1_firstHit_1
theorem dksX1_firstHit_0 : cX1_firstHit.data.toList.drop 0 = dktX1_firstHit_0 := by decide +kernel
theorem dksX1_firstHit_1 : cX1_firstHit.data.toList.drop 24 = dktX1_firstHit_1 := dk_seg dksX1_firstHit_0 24 rfl rfl
theorem dX1_firstHit_0 : decode cX1_firstHit 0 = .ok (.aload_n 0, 1) := dk_42 (dk_at dksX1_firstHit_0 0 rfl rfl)
theorem dX1_firstHit_1 : decode cX1_firstHit 1 = .ok (.invokevirtual 246, 3) := dk_182 0 246 (dk_at dksX1_firstHit_0 1 rfl rfl)
theorem dX1_firstHit_4 : decode cX1_firstHit 4 = .ok (.astore_n 1, 1) := dk_76 (dk_at dksX1_firstHit_0 4 rfl rfl)
theorem dX1_firstHit_5 : decode cX1_firstHit 5 = .ok (.iconst 0, 1) := dk_3 (dk_at dksX1_firstHit_0 5 rfl rfl)
theorem dX1_firstHit_6 : decode cX1_firstHit 6 = .ok (.istore_n 2, 1) := dk_61 (dk_at dksX1_firstHit_0 6 rfl rfl)
theorem dX1_firstHit_7 : decode cX1_firstHit 7 = .ok (.iload_n 2, 1) := dk_28 (dk_at dksX1_firstHit_0 7 rfl rfl)
theorem dX1_firstHit_8 : decode cX1_firstHit 8 = .ok (.sipush 999, 3) := dk_17 3 231 (dk_at dksX1_firstHit_0 8 rfl rfl)
theorem dX1_firstHit_11 : decode cX1_firstHit 11 = .ok (.if_icmp .gt 19, 3) := dk_163 0 19 (dk_at dksX1_firstHit_0 11 rfl rfl)
theorem dX1_firstHit_14 : decode cX1_firstHit 14 = .ok (.aload_n 1, 1) := dk_43 (dk_at dksX1_firstHit_0 14 rfl rfl)
theorem dX1_firstHit_15 : decode cX1_firstHit 15 = .ok (.iload_n 2, 1) := dk_28 (dk_at dksX1_firstHit_0 15 rfl rfl)
theorem dX1_firstHit_16 : decode cX1_firstHit 16 = .ok (.invokevirtual 277, 3) := dk_182 1 21 (dk_at dksX1_firstHit_0 16 rfl rfl)
theorem dX1_firstHit_19 : decode cX1_firstHit 19 = .ok (.ifCond .eq 5, 3) := dk_153 0 5 (dk_at dksX1_firstHit_0 19 rfl rfl)
theorem dX1_firstHit_22 : decode cX1_firstHit 22 = .ok (.iload_n 2, 1) := dk_28 (dk_at dksX1_firstHit_0 22 rfl rfl)
theorem dX1_firstHit_23 : decode cX1_firstHit 23 = .ok (.ireturn, 1) := dk_172 (dk_at dksX1_firstHit_0 23 rfl rfl)
theorem dX1_firstHit_24 : decode cX1_firstHit 24 = .ok (.iinc 2 1, 3) := dk_132 2 1 (dk_at dksX1_firstHit_1 0 rfl rfl)
theorem dX1_firstHit_27 : decode cX1_firstHit 27 = .ok (.goto (-20), 3) := dk_167 255 236 (dk_at dksX1_firstHit_1 3 rfl rfl)
theorem dX1_firstHit_30 : decode cX1_firstHit 30 = .ok (.iconst (-1), 1) := dk_2 (dk_at dksX1_firstHit_1 6 rfl rfl)
theorem dX1_firstHit_31 : decode cX1_firstHit 31 = .ok (.ireturn, 1) := dk_172 (dk_at dksX1_firstHit_1 7 rfl rfl)
abbrev cX1_append : ByteArray := prog_1_method_10_code
def yX1_append : MethodName := ⟨RX1, "append", "(IIIII)I"⟩
def dkwX1_append_5 : List UInt8 := [42, 180, 0, 88, 172]
abbrev dktX1_append_5 : List UInt8 := dkwX1_append_5 ++ []
def dkwX1_append_4 : List UInt8 := [145, 84, 42, 89, 180, 0, 88, 4, 96, 181, 0, 88, 132, 11, 248, 167, 255, 223, 132, 9, 1, 167, 255, 199]
abbrev dktX1_append_4 : List UInt8 := dkwX1_append_4 ++ dktX1_append_5
def dkwX1_append_3 : List UInt8 := [54, 10, 16, 24, 54, 11, 21, 11, 155, 0, 34, 42, 180, 0, 57, 42, 180, 0, 88, 21, 10, 21, 11, 122]
abbrev dktX1_append_3 : List UInt8 := dkwX1_append_3 ++ dktX1_append_4
def dkwX1_append_2 : List UInt8 := [25, 6, 58, 7, 25, 7, 190, 54, 8, 3, 54, 9, 21, 9, 21, 8, 162, 0, 56, 25, 7, 21, 9, 46]
abbrev dktX1_append_2 : List UInt8 := dkwX1_append_2 ++ dktX1_append_3
def dkwX1_append_1 : List UInt8 := [89, 3, 27, 79, 89, 4, 28, 79, 89, 5, 29, 79, 89, 6, 21, 4, 79, 89, 7, 21, 5, 79, 58, 6]
abbrev dktX1_append_1 : List UInt8 := dkwX1_append_1 ++ dktX1_append_2
def dkwX1_append_0 : List UInt8 := [42, 180, 0, 88, 16, 20, 96, 17, 2, 88, 163, 0, 7, 4, 167, 0, 4, 3, 184, 0, 91, 8, 188, 10]
abbrev dktX1_append_0 : List UInt8 := dkwX1_append_0 ++ dktX1_append_1
theorem dksX1_append_0 : cX1_append.data.toList.drop 0 = dktX1_append_0 := by decide +kernel
theorem dksX1_append_1 : cX1_append.data.toList.drop 24 = dktX1_append_1 := dk_seg dksX1_append_0 24 rfl rfl
theorem dksX1_append_2 : cX1_append.data.toList.drop 48 = dktX1_append_2 := dk_seg dksX1_append_1 24 rfl rfl
theorem dksX1_append_3 : cX1_append.data.toList.drop 72 = dktX1_append_3 := dk_seg dksX1_append_2 24 rfl rfl
theorem dksX1_append_4 : cX1_append.data.toList.drop 96 = dktX1_append_4 := dk_seg dksX1_append_3 24 rfl rfl
theorem dksX1_append_5 : cX1_append.data.toList.drop 120 = dktX1_append_5 := dk_seg dksX1_append_4 24 rfl rfl
theorem dX1_append_0 : decode cX1_append 0 = .ok (.aload_n 0, 1) := dk_42 (dk_at dksX1_append_0 0 rfl rfl)
theorem dX1_append_1 : decode cX1_append 1 = .ok (.getfield 88, 3) := dk_180 0 88 (dk_at dksX1_append_0 1 rfl rfl)
theorem dX1_append_4 : decode cX1_append 4 = .ok (.bipush 20, 2) := dk_16 20 (dk_at dksX1_append_0 4 rfl rfl)
theorem dX1_append_6 : decode cX1_append 6 = .ok (.iadd, 1) := dk_96 (dk_at dksX1_append_0 6 rfl rfl)
theorem dX1_append_7 : decode cX1_append 7 = .ok (.sipush 600, 3) := dk_17 2 88 (dk_at dksX1_append_0 7 rfl rfl)
theorem dX1_append_10 : decode cX1_append 10 = .ok (.if_icmp .gt 7, 3) := dk_163 0 7 (dk_at dksX1_append_0 10 rfl rfl)
theorem dX1_append_13 : decode cX1_append 13 = .ok (.iconst 1, 1) := dk_4 (dk_at dksX1_append_0 13 rfl rfl)
theorem dX1_append_14 : decode cX1_append 14 = .ok (.goto 4, 3) := dk_167 0 4 (dk_at dksX1_append_0 14 rfl rfl)
theorem dX1_append_17 : decode cX1_append 17 = .ok (.iconst 0, 1) := dk_3 (dk_at dksX1_append_0 17 rfl rfl)
theorem dX1_append_18 : decode cX1_append 18 = .ok (.invokestatic 91, 3) := dk_184 0 91 (dk_at dksX1_append_0 18 rfl rfl)
theorem dX1_append_21 : decode cX1_append 21 = .ok (.iconst 5, 1) := dk_8 (dk_at dksX1_append_0 21 rfl rfl)
theorem dX1_append_22 : decode cX1_append 22 = .ok (.newarray .int, 2) := dk_188_10 (dk_at dksX1_append_0 22 rfl rfl)
theorem dX1_append_24 : decode cX1_append 24 = .ok (.dup, 1) := dk_89 (dk_at dksX1_append_1 0 rfl rfl)
theorem dX1_append_25 : decode cX1_append 25 = .ok (.iconst 0, 1) := dk_3 (dk_at dksX1_append_1 1 rfl rfl)
theorem dX1_append_26 : decode cX1_append 26 = .ok (.iload_n 1, 1) := dk_27 (dk_at dksX1_append_1 2 rfl rfl)
theorem dX1_append_27 : decode cX1_append 27 = .ok (.iastore, 1) := dk_79 (dk_at dksX1_append_1 3 rfl rfl)
theorem dX1_append_28 : decode cX1_append 28 = .ok (.dup, 1) := dk_89 (dk_at dksX1_append_1 4 rfl rfl)
theorem dX1_append_29 : decode cX1_append 29 = .ok (.iconst 1, 1) := dk_4 (dk_at dksX1_append_1 5 rfl rfl)
theorem dX1_append_30 : decode cX1_append 30 = .ok (.iload_n 2, 1) := dk_28 (dk_at dksX1_append_1 6 rfl rfl)
theorem dX1_append_31 : decode cX1_append 31 = .ok (.iastore, 1) := dk_79 (dk_at dksX1_append_1 7 rfl rfl)
theorem dX1_append_32 : decode cX1_append 32 = .ok (.dup, 1) := dk_89 (dk_at dksX1_append_1 8 rfl rfl)
theorem dX1_append_33 : decode cX1_append 33 = .ok (.iconst 2, 1) := dk_5 (dk_at dksX1_append_1 9 rfl rfl)
theorem dX1_append_34 : decode cX1_append 34 = .ok (.iload_n 3, 1) := dk_29 (dk_at dksX1_append_1 10 rfl rfl)
theorem dX1_append_35 : decode cX1_append 35 = .ok (.iastore, 1) := dk_79 (dk_at dksX1_append_1 11 rfl rfl)
theorem dX1_append_36 : decode cX1_append 36 = .ok (.dup, 1) := dk_89 (dk_at dksX1_append_1 12 rfl rfl)
theorem dX1_append_37 : decode cX1_append 37 = .ok (.iconst 3, 1) := dk_6 (dk_at dksX1_append_1 13 rfl rfl)
theorem dX1_append_38 : decode cX1_append 38 = .ok (.iload 4, 2) := dk_21 4 (dk_at dksX1_append_1 14 rfl rfl)
theorem dX1_append_40 : decode cX1_append 40 = .ok (.iastore, 1) := dk_79 (dk_at dksX1_append_1 16 rfl rfl)
theorem dX1_append_41 : decode cX1_append 41 = .ok (.dup, 1) := dk_89 (dk_at dksX1_append_1 17 rfl rfl)
theorem dX1_append_42 : decode cX1_append 42 = .ok (.iconst 4, 1) := dk_7 (dk_at dksX1_append_1 18 rfl rfl)
theorem dX1_append_43 : decode cX1_append 43 = .ok (.iload 5, 2) := dk_21 5 (dk_at dksX1_append_1 19 rfl rfl)
theorem dX1_append_45 : decode cX1_append 45 = .ok (.iastore, 1) := dk_79 (dk_at dksX1_append_1 21 rfl rfl)
theorem dX1_append_46 : decode cX1_append 46 = .ok (.astore 6, 2) := dk_58 6 (dk_at dksX1_append_1 22 rfl rfl)
theorem dX1_append_48 : decode cX1_append 48 = .ok (.aload 6, 2) := dk_25 6 (dk_at dksX1_append_2 0 rfl rfl)
theorem dX1_append_50 : decode cX1_append 50 = .ok (.astore 7, 2) := dk_58 7 (dk_at dksX1_append_2 2 rfl rfl)
theorem dX1_append_52 : decode cX1_append 52 = .ok (.aload 7, 2) := dk_25 7 (dk_at dksX1_append_2 4 rfl rfl)
theorem dX1_append_54 : decode cX1_append 54 = .ok (.arraylength, 1) := dk_190 (dk_at dksX1_append_2 6 rfl rfl)
theorem dX1_append_55 : decode cX1_append 55 = .ok (.istore 8, 2) := dk_54 8 (dk_at dksX1_append_2 7 rfl rfl)
theorem dX1_append_57 : decode cX1_append 57 = .ok (.iconst 0, 1) := dk_3 (dk_at dksX1_append_2 9 rfl rfl)
theorem dX1_append_58 : decode cX1_append 58 = .ok (.istore 9, 2) := dk_54 9 (dk_at dksX1_append_2 10 rfl rfl)
theorem dX1_append_60 : decode cX1_append 60 = .ok (.iload 9, 2) := dk_21 9 (dk_at dksX1_append_2 12 rfl rfl)
theorem dX1_append_62 : decode cX1_append 62 = .ok (.iload 8, 2) := dk_21 8 (dk_at dksX1_append_2 14 rfl rfl)
theorem dX1_append_64 : decode cX1_append 64 = .ok (.if_icmp .ge 56, 3) := dk_162 0 56 (dk_at dksX1_append_2 16 rfl rfl)
theorem dX1_append_67 : decode cX1_append 67 = .ok (.aload 7, 2) := dk_25 7 (dk_at dksX1_append_2 19 rfl rfl)
theorem dX1_append_69 : decode cX1_append 69 = .ok (.iload 9, 2) := dk_21 9 (dk_at dksX1_append_2 21 rfl rfl)
theorem dX1_append_71 : decode cX1_append 71 = .ok (.iaload, 1) := dk_46 (dk_at dksX1_append_2 23 rfl rfl)
theorem dX1_append_72 : decode cX1_append 72 = .ok (.istore 10, 2) := dk_54 10 (dk_at dksX1_append_3 0 rfl rfl)
theorem dX1_append_74 : decode cX1_append 74 = .ok (.bipush 24, 2) := dk_16 24 (dk_at dksX1_append_3 2 rfl rfl)
theorem dX1_append_76 : decode cX1_append 76 = .ok (.istore 11, 2) := dk_54 11 (dk_at dksX1_append_3 4 rfl rfl)
theorem dX1_append_78 : decode cX1_append 78 = .ok (.iload 11, 2) := dk_21 11 (dk_at dksX1_append_3 6 rfl rfl)
theorem dX1_append_80 : decode cX1_append 80 = .ok (.ifCond .lt 34, 3) := dk_155 0 34 (dk_at dksX1_append_3 8 rfl rfl)
theorem dX1_append_83 : decode cX1_append 83 = .ok (.aload_n 0, 1) := dk_42 (dk_at dksX1_append_3 11 rfl rfl)
theorem dX1_append_84 : decode cX1_append 84 = .ok (.getfield 57, 3) := dk_180 0 57 (dk_at dksX1_append_3 12 rfl rfl)
theorem dX1_append_87 : decode cX1_append 87 = .ok (.aload_n 0, 1) := dk_42 (dk_at dksX1_append_3 15 rfl rfl)
theorem dX1_append_88 : decode cX1_append 88 = .ok (.getfield 88, 3) := dk_180 0 88 (dk_at dksX1_append_3 16 rfl rfl)
theorem dX1_append_91 : decode cX1_append 91 = .ok (.iload 10, 2) := dk_21 10 (dk_at dksX1_append_3 19 rfl rfl)
theorem dX1_append_93 : decode cX1_append 93 = .ok (.iload 11, 2) := dk_21 11 (dk_at dksX1_append_3 21 rfl rfl)
theorem dX1_append_95 : decode cX1_append 95 = .ok (.ishr, 1) := dk_122 (dk_at dksX1_append_3 23 rfl rfl)
theorem dX1_append_96 : decode cX1_append 96 = .ok (.i2b, 1) := dk_145 (dk_at dksX1_append_4 0 rfl rfl)
theorem dX1_append_97 : decode cX1_append 97 = .ok (.bastore, 1) := dk_84 (dk_at dksX1_append_4 1 rfl rfl)
theorem dX1_append_98 : decode cX1_append 98 = .ok (.aload_n 0, 1) := dk_42 (dk_at dksX1_append_4 2 rfl rfl)
theorem dX1_append_99 : decode cX1_append 99 = .ok (.dup, 1) := dk_89 (dk_at dksX1_append_4 3 rfl rfl)
theorem dX1_append_100 : decode cX1_append 100 = .ok (.getfield 88, 3) := dk_180 0 88 (dk_at dksX1_append_4 4 rfl rfl)
theorem dX1_append_103 : decode cX1_append 103 = .ok (.iconst 1, 1) := dk_4 (dk_at dksX1_append_4 7 rfl rfl)
theorem dX1_append_104 : decode cX1_append 104 = .ok (.iadd, 1) := dk_96 (dk_at dksX1_append_4 8 rfl rfl)
theorem dX1_append_105 : decode cX1_append 105 = .ok (.putfield 88, 3) := dk_181 0 88 (dk_at dksX1_append_4 9 rfl rfl)
theorem dX1_append_108 : decode cX1_append 108 = .ok (.iinc 11 (-8), 3) := dk_132 11 248 (dk_at dksX1_append_4 12 rfl rfl)
theorem dX1_append_111 : decode cX1_append 111 = .ok (.goto (-33), 3) := dk_167 255 223 (dk_at dksX1_append_4 15 rfl rfl)
theorem dX1_append_114 : decode cX1_append 114 = .ok (.iinc 9 1, 3) := dk_132 9 1 (dk_at dksX1_append_4 18 rfl rfl)
theorem dX1_append_117 : decode cX1_append 117 = .ok (.goto (-57), 3) := dk_167 255 199 (dk_at dksX1_append_4 21 rfl rfl)
theorem dX1_append_120 : decode cX1_append 120 = .ok (.aload_n 0, 1) := dk_42 (dk_at dksX1_append_5 0 rfl rfl)
theorem dX1_append_121 : decode cX1_append 121 = .ok (.getfield 88, 3) := dk_180 0 88 (dk_at dksX1_append_5 1 rfl rfl)
theorem dX1_append_124 : decode cX1_append 124 = .ok (.ireturn, 1) := dk_172 (dk_at dksX1_append_5 4 rfl rfl)
abbrev cX1_requireState : ByteArray := prog_1_method_4_code
def yX1_requireState : MethodName := ⟨RX1, "requireState", "(Z)V"⟩
def dkwX1_requireState_0 : List UInt8 := [26, 154, 0, 11, 187, 0, 9, 89, 183, 0, 11, 191, 177]
abbrev dktX1_requireState_0 : List UInt8 := dkwX1_requireState_0 ++ []
theorem dksX1_requireState_0 : cX1_requireState.data.toList.drop 0 = dktX1_requireState_0 := by decide +kernel
theorem dX1_requireState_0 : decode cX1_requireState 0 = .ok (.iload_n 0, 1) := dk_26 (dk_at dksX1_requireState_0 0 rfl rfl)
theorem dX1_requireState_1 : decode cX1_requireState 1 = .ok (.ifCond .ne 11, 3) := dk_154 0 11 (dk_at dksX1_requireState_0 1 rfl rfl)
theorem dX1_requireState_4 : decode cX1_requireState 4 = .ok (.new 9, 3) := dk_187 0 9 (dk_at dksX1_requireState_0 4 rfl rfl)
theorem dX1_requireState_7 : decode cX1_requireState 7 = .ok (.dup, 1) := dk_89 (dk_at dksX1_requireState_0 7 rfl rfl)
theorem dX1_requireState_8 : decode cX1_requireState 8 = .ok (.invokespecial 11, 3) := dk_183 0 11 (dk_at dksX1_requireState_0 8 rfl rfl)
theorem dX1_requireState_11 : decode cX1_requireState 11 = .ok (.athrow, 1) := dk_191 (dk_at dksX1_requireState_0 11 rfl rfl)
theorem dX1_requireState_12 : decode cX1_requireState 12 = .ok (.return_, 1) := dk_177 (dk_at dksX1_requireState_0 12 rfl rfl)
abbrev cX1_truncate : ByteArray := prog_1_method_11_code
def yX1_truncate : MethodName := ⟨RX1, "truncate", "(I)V"⟩
def dkwX1_truncate_0 : List UInt8 := [27, 133, 9, 42, 180, 0, 88, 133, 184, 0, 15, 184, 0, 95, 42, 27, 181, 0, 88, 177]
abbrev dktX1_truncate_0 : List UInt8 := dkwX1_truncate_0 ++ []
theorem dksX1_truncate_0 : cX1_truncate.data.toList.drop 0 = dktX1_truncate_0 := by decide +kernel
theorem dX1_truncate_0 : decode cX1_truncate 0 = .ok (.iload_n 1, 1) := dk_27 (dk_at dksX1_truncate_0 0 rfl rfl)
theorem dX1_truncate_1 : decode cX1_truncate 1 = .ok (.i2l, 1) := dk_133 (dk_at dksX1_truncate_0 1 rfl rfl)
theorem dX1_truncate_2 : decode cX1_truncate 2 = .ok (.lconst 0, 1) := dk_9 (dk_at dksX1_truncate_0 2 rfl rfl)
theorem dX1_truncate_3 : decode cX1_truncate 3 = .ok (.aload_n 0, 1) := dk_42 (dk_at dksX1_truncate_0 3 rfl rfl)
theorem dX1_truncate_4 : decode cX1_truncate 4 = .ok (.getfield 88, 3) := dk_180 0 88 (dk_at dksX1_truncate_0 4 rfl rfl)
theorem dX1_truncate_7 : decode cX1_truncate 7 = .ok (.i2l, 1) := dk_133 (dk_at dksX1_truncate_0 7 rfl rfl)
theorem dX1_truncate_8 : decode cX1_truncate 8 = .ok (.invokestatic 15, 3) := dk_184 0 15 (dk_at dksX1_truncate_0 8 rfl rfl)
theorem dX1_truncate_11 : decode cX1_truncate 11 = .ok (.invokestatic 95, 3) := dk_184 0 95 (dk_at dksX1_truncate_0 11 rfl rfl)
theorem dX1_truncate_14 : decode cX1_truncate 14 = .ok (.aload_n 0, 1) := dk_42 (dk_at dksX1_truncate_0 14 rfl rfl)
theorem dX1_truncate_15 : decode cX1_truncate 15 = .ok (.iload_n 1, 1) := dk_27 (dk_at dksX1_truncate_0 15 rfl rfl)
theorem dX1_truncate_16 : decode cX1_truncate 16 = .ok (.putfield 88, 3) := dk_181 0 88 (dk_at dksX1_truncate_0 16 rfl rfl)
theorem dX1_truncate_19 : decode cX1_truncate 19 = .ok (.return_, 1) := dk_177 (dk_at dksX1_truncate_0 19 rfl rfl)
abbrev cX1_requireArgument : ByteArray := prog_1_method_3_code
def yX1_requireArgument : MethodName := ⟨RX1, "requireArgument", "(Z)V"⟩
def dkwX1_requireArgument_0 : List UInt8 := [26, 154, 0, 11, 187, 0, 3, 89, 183, 0, 5, 191, 177]
abbrev dktX1_requireArgument_0 : List UInt8 := dkwX1_requireArgument_0 ++ []
theorem dksX1_requireArgument_0 : cX1_requireArgument.data.toList.drop 0 = dktX1_requireArgument_0 := by decide +kernel
theorem dX1_requireArgument_0 : decode cX1_requireArgument 0 = .ok (.iload_n 0, 1) := dk_26 (dk_at dksX1_requireArgument_0 0 rfl rfl)
theorem dX1_requireArgument_1 : decode cX1_requireArgument 1 = .ok (.ifCond .ne 11, 3) := dk_154 0 11 (dk_at dksX1_requireArgument_0 1 rfl rfl)
theorem dX1_requireArgument_4 : decode cX1_requireArgument 4 = .ok (.new 3, 3) := dk_187 0 3 (dk_at dksX1_requireArgument_0 4 rfl rfl)
theorem dX1_requireArgument_7 : decode cX1_requireArgument 7 = .ok (.dup, 1) := dk_89 (dk_at dksX1_requireArgument_0 7 rfl rfl)
theorem dX1_requireArgument_8 : decode cX1_requireArgument 8 = .ok (.invokespecial 5, 3) := dk_183 0 5 (dk_at dksX1_requireArgument_0 8 rfl rfl)
theorem dX1_requireArgument_11 : decode cX1_requireArgument 11 = .ok (.athrow, 1) := dk_191 (dk_at dksX1_requireArgument_0 11 rfl rfl)
theorem dX1_requireArgument_12 : decode cX1_requireArgument 12 = .ok (.return_, 1) := dk_177 (dk_at dksX1_requireArgument_0 12 rfl rfl)
abbrev cX1_load : ByteArray := prog_1_method_12_code
def yX1_load : MethodName := ⟨RX1, "load", "()I"⟩
def dkwX1_load_2 : List UInt8 := [183, 0, 5, 191, 42, 180, 0, 53, 182, 0, 111, 42, 180, 0, 39, 180, 0, 114, 182, 0, 118, 172]
abbrev dktX1_load_2 : List UInt8 := dkwX1_load_2 ++ []
def dkwX1_load_1 : List UInt8 := [43, 182, 0, 103, 181, 0, 39, 167, 0, 20, 77, 42, 44, 180, 0, 108, 181, 0, 61, 187, 0, 3, 89]
abbrev dktX1_load_1 : List UInt8 := dkwX1_load_1 ++ dktX1_load_2
def dkwX1_load_0 : List UInt8 := [187, 0, 98, 89, 42, 42, 180, 0, 88, 183, 0, 100, 76, 42, 3, 181, 0, 88, 42, 2, 181, 0, 61, 42]
abbrev dktX1_load_0 : List UInt8 := dkwX1_load_0 ++ dktX1_load_1
theorem dksX1_load_0 : cX1_load.data.toList.drop 0 = dktX1_load_0 := by decide +kernel
theorem dksX1_load_1 : cX1_load.data.toList.drop 24 = dktX1_load_1 := dk_seg dksX1_load_0 24 rfl rfl
theorem dksX1_load_2 : cX1_load.data.toList.drop 47 = dktX1_load_2 := dk_seg dksX1_load_1 23 rfl rfl
theorem dX1_load_0 : decode cX1_load 0 = .ok (.new 98, 3) := dk_187 0 98 (dk_at dksX1_load_0 0 rfl rfl)
theorem dX1_load_3 : decode cX1_load 3 = .ok (.dup, 1) := dk_89 (dk_at dksX1_load_0 3 rfl rfl)
theorem dX1_load_4 : decode cX1_load 4 = .ok (.aload_n 0, 1) := dk_42 (dk_at dksX1_load_0 4 rfl rfl)
theorem dX1_load_5 : decode cX1_load 5 = .ok (.aload_n 0, 1) := dk_42 (dk_at dksX1_load_0 5 rfl rfl)
theorem dX1_load_6 : decode cX1_load 6 = .ok (.getfield 88, 3) := dk_180 0 88 (dk_at dksX1_load_0 6 rfl rfl)
theorem dX1_load_9 : decode cX1_load 9 = .ok (.invokespecial 100, 3) := dk_183 0 100 (dk_at dksX1_load_0 9 rfl rfl)
theorem dX1_load_12 : decode cX1_load 12 = .ok (.astore_n 1, 1) := dk_76 (dk_at dksX1_load_0 12 rfl rfl)
theorem dX1_load_13 : decode cX1_load 13 = .ok (.aload_n 0, 1) := dk_42 (dk_at dksX1_load_0 13 rfl rfl)
theorem dX1_load_14 : decode cX1_load 14 = .ok (.iconst 0, 1) := dk_3 (dk_at dksX1_load_0 14 rfl rfl)
theorem dX1_load_15 : decode cX1_load 15 = .ok (.putfield 88, 3) := dk_181 0 88 (dk_at dksX1_load_0 15 rfl rfl)
theorem dX1_load_18 : decode cX1_load 18 = .ok (.aload_n 0, 1) := dk_42 (dk_at dksX1_load_0 18 rfl rfl)
theorem dX1_load_19 : decode cX1_load 19 = .ok (.iconst (-1), 1) := dk_2 (dk_at dksX1_load_0 19 rfl rfl)
theorem dX1_load_20 : decode cX1_load 20 = .ok (.putfield 61, 3) := dk_181 0 61 (dk_at dksX1_load_0 20 rfl rfl)
theorem dX1_load_23 : decode cX1_load 23 = .ok (.aload_n 0, 1) := dk_42 (dk_at dksX1_load_0 23 rfl rfl)
theorem dX1_load_24 : decode cX1_load 24 = .ok (.aload_n 1, 1) := dk_43 (dk_at dksX1_load_1 0 rfl rfl)
theorem dX1_load_25 : decode cX1_load 25 = .ok (.invokevirtual 103, 3) := dk_182 0 103 (dk_at dksX1_load_1 1 rfl rfl)
theorem dX1_load_28 : decode cX1_load 28 = .ok (.putfield 39, 3) := dk_181 0 39 (dk_at dksX1_load_1 4 rfl rfl)
theorem dX1_load_31 : decode cX1_load 31 = .ok (.goto 20, 3) := dk_167 0 20 (dk_at dksX1_load_1 7 rfl rfl)
theorem dX1_load_34 : decode cX1_load 34 = .ok (.astore_n 2, 1) := dk_77 (dk_at dksX1_load_1 10 rfl rfl)
theorem dX1_load_35 : decode cX1_load 35 = .ok (.aload_n 0, 1) := dk_42 (dk_at dksX1_load_1 11 rfl rfl)
theorem dX1_load_36 : decode cX1_load 36 = .ok (.aload_n 2, 1) := dk_44 (dk_at dksX1_load_1 12 rfl rfl)
theorem dX1_load_37 : decode cX1_load 37 = .ok (.getfield 108, 3) := dk_180 0 108 (dk_at dksX1_load_1 13 rfl rfl)
theorem dX1_load_40 : decode cX1_load 40 = .ok (.putfield 61, 3) := dk_181 0 61 (dk_at dksX1_load_1 16 rfl rfl)
theorem dX1_load_43 : decode cX1_load 43 = .ok (.new 3, 3) := dk_187 0 3 (dk_at dksX1_load_1 19 rfl rfl)
theorem dX1_load_46 : decode cX1_load 46 = .ok (.dup, 1) := dk_89 (dk_at dksX1_load_1 22 rfl rfl)
theorem dX1_load_47 : decode cX1_load 47 = .ok (.invokespecial 5, 3) := dk_183 0 5 (dk_at dksX1_load_2 0 rfl rfl)
theorem dX1_load_50 : decode cX1_load 50 = .ok (.athrow, 1) := dk_191 (dk_at dksX1_load_2 3 rfl rfl)
theorem dX1_load_51 : decode cX1_load 51 = .ok (.aload_n 0, 1) := dk_42 (dk_at dksX1_load_2 4 rfl rfl)
theorem dX1_load_52 : decode cX1_load 52 = .ok (.getfield 53, 3) := dk_180 0 53 (dk_at dksX1_load_2 5 rfl rfl)
theorem dX1_load_55 : decode cX1_load 55 = .ok (.invokevirtual 111, 3) := dk_182 0 111 (dk_at dksX1_load_2 8 rfl rfl)
theorem dX1_load_58 : decode cX1_load 58 = .ok (.aload_n 0, 1) := dk_42 (dk_at dksX1_load_2 11 rfl rfl)
theorem dX1_load_59 : decode cX1_load 59 = .ok (.getfield 39, 3) := dk_180 0 39 (dk_at dksX1_load_2 12 rfl rfl)
theorem dX1_load_62 : decode cX1_load 62 = .ok (.getfield 114, 3) := dk_180 0 114 (dk_at dksX1_load_2 15 rfl rfl)
theorem dX1_load_65 : decode cX1_load 65 = .ok (.invokevirtual 118, 3) := dk_182 0 118 (dk_at dksX1_load_2 18 rfl rfl)
theorem dX1_load_68 : decode cX1_load 68 = .ok (.ireturn, 1) := dk_172 (dk_at dksX1_load_2 21 rfl rfl)
abbrev cX1_count : ByteArray := prog_1_method_20_code
def yX1_count : MethodName := ⟨RX1, "count", "(I)I"⟩
def dkwX1_count_3 : List UInt8 := [180, 0, 39, 180, 0, 135, 182, 0, 118, 172, 42, 180, 0, 39, 180, 0, 130, 182, 0, 118, 172]
abbrev dktX1_count_3 : List UInt8 := dkwX1_count_3 ++ []
def dkwX1_count_2 : List UInt8 := [42, 180, 0, 39, 180, 0, 119, 182, 0, 118, 172, 42, 180, 0, 39, 180, 0, 114, 182, 0, 118, 172, 42]
abbrev dktX1_count_2 : List UInt8 := dkwX1_count_2 ++ dktX1_count_3
def dkwX1_count_1 : List UInt8 := [170, 0, 0, 0, 0, 0, 60, 0, 0, 0, 0, 0, 0, 0, 2, 0, 0, 0, 27, 0, 0, 0, 38, 0, 0, 0, 49]
abbrev dktX1_count_1 : List UInt8 := dkwX1_count_1 ++ dktX1_count_2
def dkwX1_count_0 : List UInt8 := [27, 133, 9, 20, 0, 163, 184, 0, 15, 184, 0, 95, 27]
abbrev dktX1_count_0 : List UInt8 := dkwX1_count_0 ++ dktX1_count_1
theorem dksX1_count_0 : cX1_count.data.toList.drop 0 = dktX1_count_0 := by decide +kernel
theorem dksX1_count_1 : cX1_count.data.toList.drop 13 = dktX1_count_1 := dk_seg dksX1_count_0 13 rfl rfl
theorem dksX1_count_2 : cX1_count.data.toList.drop 40 = dktX1_count_2 := dk_seg dksX1_count_1 27 rfl rfl
theorem dksX1_count_3 : cX1_count.data.toList.drop 63 = dktX1_count_3 := dk_seg dksX1_count_2 23 rfl rfl
theorem dX1_count_0 : decode cX1_count 0 = .ok (.iload_n 1, 1) := dk_27 (dk_at dksX1_count_0 0 rfl rfl)
theorem dX1_count_1 : decode cX1_count 1 = .ok (.i2l, 1) := dk_133 (dk_at dksX1_count_0 1 rfl rfl)
theorem dX1_count_2 : decode cX1_count 2 = .ok (.lconst 0, 1) := dk_9 (dk_at dksX1_count_0 2 rfl rfl)
theorem dX1_count_3 : decode cX1_count 3 = .ok (.ldc2_w 163, 3) := dk_20 0 163 (dk_at dksX1_count_0 3 rfl rfl)
theorem dX1_count_6 : decode cX1_count 6 = .ok (.invokestatic 15, 3) := dk_184 0 15 (dk_at dksX1_count_0 6 rfl rfl)
theorem dX1_count_9 : decode cX1_count 9 = .ok (.invokestatic 95, 3) := dk_184 0 95 (dk_at dksX1_count_0 9 rfl rfl)
theorem dX1_count_12 : decode cX1_count 12 = .ok (.iload_n 1, 1) := dk_27 (dk_at dksX1_count_0 12 rfl rfl)
theorem dX1_count_13 : decode cX1_count 13 = .ok (.tableswitch 60 0 2 #[27, 38, 49], 27) := by decide +kernel
theorem dX1_count_40 : decode cX1_count 40 = .ok (.aload_n 0, 1) := dk_42 (dk_at dksX1_count_2 0 rfl rfl)
theorem dX1_count_41 : decode cX1_count 41 = .ok (.getfield 39, 3) := dk_180 0 39 (dk_at dksX1_count_2 1 rfl rfl)
theorem dX1_count_44 : decode cX1_count 44 = .ok (.getfield 119, 3) := dk_180 0 119 (dk_at dksX1_count_2 4 rfl rfl)
theorem dX1_count_47 : decode cX1_count 47 = .ok (.invokevirtual 118, 3) := dk_182 0 118 (dk_at dksX1_count_2 7 rfl rfl)
theorem dX1_count_50 : decode cX1_count 50 = .ok (.ireturn, 1) := dk_172 (dk_at dksX1_count_2 10 rfl rfl)
theorem dX1_count_51 : decode cX1_count 51 = .ok (.aload_n 0, 1) := dk_42 (dk_at dksX1_count_2 11 rfl rfl)
theorem dX1_count_52 : decode cX1_count 52 = .ok (.getfield 39, 3) := dk_180 0 39 (dk_at dksX1_count_2 12 rfl rfl)
theorem dX1_count_55 : decode cX1_count 55 = .ok (.getfield 114, 3) := dk_180 0 114 (dk_at dksX1_count_2 15 rfl rfl)
theorem dX1_count_58 : decode cX1_count 58 = .ok (.invokevirtual 118, 3) := dk_182 0 118 (dk_at dksX1_count_2 18 rfl rfl)
theorem dX1_count_61 : decode cX1_count 61 = .ok (.ireturn, 1) := dk_172 (dk_at dksX1_count_2 21 rfl rfl)
theorem dX1_count_62 : decode cX1_count 62 = .ok (.aload_n 0, 1) := dk_42 (dk_at dksX1_count_2 22 rfl rfl)
theorem dX1_count_63 : decode cX1_count 63 = .ok (.getfield 39, 3) := dk_180 0 39 (dk_at dksX1_count_3 0 rfl rfl)
theorem dX1_count_66 : decode cX1_count 66 = .ok (.getfield 135, 3) := dk_180 0 135 (dk_at dksX1_count_3 3 rfl rfl)
theorem dX1_count_69 : decode cX1_count 69 = .ok (.invokevirtual 118, 3) := dk_182 0 118 (dk_at dksX1_count_3 6 rfl rfl)
theorem dX1_count_72 : decode cX1_count 72 = .ok (.ireturn, 1) := dk_172 (dk_at dksX1_count_3 9 rfl rfl)
theorem dX1_count_73 : decode cX1_count 73 = .ok (.aload_n 0, 1) := dk_42 (dk_at dksX1_count_3 10 rfl rfl)
theorem dX1_count_74 : decode cX1_count 74 = .ok (.getfield 39, 3) := dk_180 0 39 (dk_at dksX1_count_3 11 rfl rfl)
theorem dX1_count_77 : decode cX1_count 77 = .ok (.getfield 130, 3) := dk_180 0 130 (dk_at dksX1_count_3 14 rfl rfl)
theorem dX1_count_80 : decode cX1_count 80 = .ok (.invokevirtual 118, 3) := dk_182 0 118 (dk_at dksX1_count_3 17 rfl rfl)
theorem dX1_count_83 : decode cX1_count 83 = .ok (.ireturn, 1) := dk_172 (dk_at dksX1_count_3 20 rfl rfl)
abbrev cX1_limit : ByteArray := prog_1_method_21_code
def yX1_limit : MethodName := ⟨RX1, "limit", "(II)I"⟩
def dkwX1_limit_3 : List UInt8 := [172, 187, 0, 3, 89, 183, 0, 5, 191]
abbrev dktX1_limit_3 : List UInt8 := dkwX1_limit_3 ++ []
def dkwX1_limit_2 : List UInt8 := [45, 180, 0, 157, 172, 45, 180, 0, 160, 172, 45, 180, 0, 165, 172, 45, 180, 0, 168, 172, 45, 180, 0, 171]
abbrev dktX1_limit_2 : List UInt8 := dkwX1_limit_2 ++ dktX1_limit_3
def dkwX1_limit_1 : List UInt8 := [170, 0, 0, 0, 58, 0, 0, 0, 0, 0, 0, 0, 4, 0, 0, 0, 33, 0, 0, 0, 38, 0, 0, 0, 43, 0, 0, 0, 48, 0, 0, 0, 53]
abbrev dktX1_limit_1 : List UInt8 := dkwX1_limit_1 ++ dktX1_limit_2
def dkwX1_limit_0 : List UInt8 := [42, 27, 182, 0, 144, 78, 28]
abbrev dktX1_limit_0 : List UInt8 := dkwX1_limit_0 ++ dktX1_limit_1
theorem dksX1_limit_0 : cX1_limit.data.toList.drop 0 = dktX1_limit_0 := by decide +kernel
theorem dksX1_limit_1 : cX1_limit.data.toList.drop 7 = dktX1_limit_1 := dk_seg dksX1_limit_0 7 rfl rfl
theorem dksX1_limit_2 : cX1_limit.data.toList.drop 40 = dktX1_limit_2 := dk_seg dksX1_limit_1 33 rfl rfl
theorem dksX1_limit_3 : cX1_limit.data.toList.drop 64 = dktX1_limit_3 := dk_seg dksX1_limit_2 24 rfl rfl
theorem dX1_limit_0 : decode cX1_limit 0 = .ok (.aload_n 0, 1) := dk_42 (dk_at dksX1_limit_0 0 rfl rfl)
theorem dX1_limit_1 : decode cX1_limit 1 = .ok (.iload_n 1, 1) := dk_27 (dk_at dksX1_limit_0 1 rfl rfl)
theorem dX1_limit_2 : decode cX1_limit 2 = .ok (.invokevirtual 144, 3) := dk_182 0 144 (dk_at dksX1_limit_0 2 rfl rfl)
theorem dX1_limit_5 : decode cX1_limit 5 = .ok (.astore_n 3, 1) := dk_78 (dk_at dksX1_limit_0 5 rfl rfl)
theorem dX1_limit_6 : decode cX1_limit 6 = .ok (.iload_n 2, 1) := dk_28 (dk_at dksX1_limit_0 6 rfl rfl)
theorem dX1_limit_7 : decode cX1_limit 7 = .ok (.tableswitch 58 0 4 #[33, 38, 43, 48, 53], 33) := by decide +kernel
theorem dX1_limit_40 : decode cX1_limit 40 = .ok (.aload_n 3, 1) := dk_45 (dk_at dksX1_limit_2 0 rfl rfl)
theorem dX1_limit_41 : decode cX1_limit 41 = .ok (.getfield 157, 3) := dk_180 0 157 (dk_at dksX1_limit_2 1 rfl rfl)
theorem dX1_limit_44 : decode cX1_limit 44 = .ok (.ireturn, 1) := dk_172 (dk_at dksX1_limit_2 4 rfl rfl)
theorem dX1_limit_45 : decode cX1_limit 45 = .ok (.aload_n 3, 1) := dk_45 (dk_at dksX1_limit_2 5 rfl rfl)
theorem dX1_limit_46 : decode cX1_limit 46 = .ok (.getfield 160, 3) := dk_180 0 160 (dk_at dksX1_limit_2 6 rfl rfl)
theorem dX1_limit_49 : decode cX1_limit 49 = .ok (.ireturn, 1) := dk_172 (dk_at dksX1_limit_2 9 rfl rfl)
theorem dX1_limit_50 : decode cX1_limit 50 = .ok (.aload_n 3, 1) := dk_45 (dk_at dksX1_limit_2 10 rfl rfl)
theorem dX1_limit_51 : decode cX1_limit 51 = .ok (.getfield 165, 3) := dk_180 0 165 (dk_at dksX1_limit_2 11 rfl rfl)
theorem dX1_limit_54 : decode cX1_limit 54 = .ok (.ireturn, 1) := dk_172 (dk_at dksX1_limit_2 14 rfl rfl)
theorem dX1_limit_55 : decode cX1_limit 55 = .ok (.aload_n 3, 1) := dk_45 (dk_at dksX1_limit_2 15 rfl rfl)
theorem dX1_limit_56 : decode cX1_limit 56 = .ok (.getfield 168, 3) := dk_180 0 168 (dk_at dksX1_limit_2 16 rfl rfl)
theorem dX1_limit_59 : decode cX1_limit 59 = .ok (.ireturn, 1) := dk_172 (dk_at dksX1_limit_2 19 rfl rfl)
theorem dX1_limit_60 : decode cX1_limit 60 = .ok (.aload_n 3, 1) := dk_45 (dk_at dksX1_limit_2 20 rfl rfl)
theorem dX1_limit_61 : decode cX1_limit 61 = .ok (.getfield 171, 3) := dk_180 0 171 (dk_at dksX1_limit_2 21 rfl rfl)
theorem dX1_limit_64 : decode cX1_limit 64 = .ok (.ireturn, 1) := dk_172 (dk_at dksX1_limit_3 0 rfl rfl)
theorem dX1_limit_65 : decode cX1_limit 65 = .ok (.new 3, 3) := dk_187 0 3 (dk_at dksX1_limit_3 1 rfl rfl)
theorem dX1_limit_68 : decode cX1_limit 68 = .ok (.dup, 1) := dk_89 (dk_at dksX1_limit_3 4 rfl rfl)
theorem dX1_limit_69 : decode cX1_limit 69 = .ok (.invokespecial 5, 3) := dk_183 0 5 (dk_at dksX1_limit_3 5 rfl rfl)
theorem dX1_limit_72 : decode cX1_limit 72 = .ok (.athrow, 1) := dk_191 (dk_at dksX1_limit_3 8 rfl rfl)
abbrev cX1_axis : ByteArray := prog_1_method_14_code
def yX1_axis : MethodName := ⟨RX1, "axis", "(I)LCameraMoves$Axis;"⟩
def dkwX1_axis_1 : List UInt8 := [182, 0, 122, 192, 0, 126, 176]
abbrev dktX1_axis_1 : List UInt8 := dkwX1_axis_1 ++ []
def dkwX1_axis_0 : List UInt8 := [27, 42, 180, 0, 39, 180, 0, 119, 182, 0, 118, 184, 0, 22, 42, 180, 0, 39, 180, 0, 119, 27]
abbrev dktX1_axis_0 : List UInt8 := dkwX1_axis_0 ++ dktX1_axis_1
theorem dksX1_axis_0 : cX1_axis.data.toList.drop 0 = dktX1_axis_0 := by decide +kernel
theorem dksX1_axis_1 : cX1_axis.data.toList.drop 22 = dktX1_axis_1 := dk_seg dksX1_axis_0 22 rfl rfl
theorem dX1_axis_0 : decode cX1_axis 0 = .ok (.iload_n 1, 1) := dk_27 (dk_at dksX1_axis_0 0 rfl rfl)
theorem dX1_axis_1 : decode cX1_axis 1 = .ok (.aload_n 0, 1) := dk_42 (dk_at dksX1_axis_0 1 rfl rfl)
theorem dX1_axis_2 : decode cX1_axis 2 = .ok (.getfield 39, 3) := dk_180 0 39 (dk_at dksX1_axis_0 2 rfl rfl)
theorem dX1_axis_5 : decode cX1_axis 5 = .ok (.getfield 119, 3) := dk_180 0 119 (dk_at dksX1_axis_0 5 rfl rfl)
theorem dX1_axis_8 : decode cX1_axis 8 = .ok (.invokevirtual 118, 3) := dk_182 0 118 (dk_at dksX1_axis_0 8 rfl rfl)
theorem dX1_axis_11 : decode cX1_axis 11 = .ok (.invokestatic 22, 3) := dk_184 0 22 (dk_at dksX1_axis_0 11 rfl rfl)
theorem dX1_axis_14 : decode cX1_axis 14 = .ok (.aload_n 0, 1) := dk_42 (dk_at dksX1_axis_0 14 rfl rfl)
theorem dX1_axis_15 : decode cX1_axis 15 = .ok (.getfield 39, 3) := dk_180 0 39 (dk_at dksX1_axis_0 15 rfl rfl)
theorem dX1_axis_18 : decode cX1_axis 18 = .ok (.getfield 119, 3) := dk_180 0 119 (dk_at dksX1_axis_0 18 rfl rfl)
theorem dX1_axis_21 : decode cX1_axis 21 = .ok (.iload_n 1, 1) := dk_27 (dk_at dksX1_axis_0 21 rfl rfl)
theorem dX1_axis_22 : decode cX1_axis 22 = .ok (.invokevirtual 122, 3) := dk_182 0 122 (dk_at dksX1_axis_1 0 rfl rfl)
theorem dX1_axis_25 : decode cX1_axis 25 = .ok (.checkcast 126, 3) := dk_192 0 126 (dk_at dksX1_axis_1 3 rfl rfl)
theorem dX1_axis_28 : decode cX1_axis 28 = .ok (.areturn, 1) := dk_176 (dk_at dksX1_axis_1 6 rfl rfl)
abbrev cX1_requireIndex : ByteArray := prog_1_method_6_code
def yX1_requireIndex : MethodName := ⟨RX1, "requireIndex", "(II)V"⟩
def dkwX1_requireIndex_0 : List UInt8 := [26, 133, 9, 27, 4, 100, 133, 184, 0, 15, 154, 0, 11, 187, 0, 19, 89, 183, 0, 21, 191, 177]
abbrev dktX1_requireIndex_0 : List UInt8 := dkwX1_requireIndex_0 ++ []
theorem dksX1_requireIndex_0 : cX1_requireIndex.data.toList.drop 0 = dktX1_requireIndex_0 := by decide +kernel
theorem dX1_requireIndex_0 : decode cX1_requireIndex 0 = .ok (.iload_n 0, 1) := dk_26 (dk_at dksX1_requireIndex_0 0 rfl rfl)
theorem dX1_requireIndex_1 : decode cX1_requireIndex 1 = .ok (.i2l, 1) := dk_133 (dk_at dksX1_requireIndex_0 1 rfl rfl)
theorem dX1_requireIndex_2 : decode cX1_requireIndex 2 = .ok (.lconst 0, 1) := dk_9 (dk_at dksX1_requireIndex_0 2 rfl rfl)
theorem dX1_requireIndex_3 : decode cX1_requireIndex 3 = .ok (.iload_n 1, 1) := dk_27 (dk_at dksX1_requireIndex_0 3 rfl rfl)
theorem dX1_requireIndex_4 : decode cX1_requireIndex 4 = .ok (.iconst 1, 1) := dk_4 (dk_at dksX1_requireIndex_0 4 rfl rfl)
theorem dX1_requireIndex_5 : decode cX1_requireIndex 5 = .ok (.isub, 1) := dk_100 (dk_at dksX1_requireIndex_0 5 rfl rfl)
theorem dX1_requireIndex_6 : decode cX1_requireIndex 6 = .ok (.i2l, 1) := dk_133 (dk_at dksX1_requireIndex_0 6 rfl rfl)
theorem dX1_requireIndex_7 : decode cX1_requireIndex 7 = .ok (.invokestatic 15, 3) := dk_184 0 15 (dk_at dksX1_requireIndex_0 7 rfl rfl)
theorem dX1_requireIndex_10 : decode cX1_requireIndex 10 = .ok (.ifCond .ne 11, 3) := dk_154 0 11 (dk_at dksX1_requireIndex_0 10 rfl rfl)
theorem dX1_requireIndex_13 : decode cX1_requireIndex 13 = .ok (.new 19, 3) := dk_187 0 19 (dk_at dksX1_requireIndex_0 13 rfl rfl)
theorem dX1_requireIndex_16 : decode cX1_requireIndex 16 = .ok (.dup, 1) := dk_89 (dk_at dksX1_requireIndex_0 16 rfl rfl)
theorem dX1_requireIndex_17 : decode cX1_requireIndex 17 = .ok (.invokespecial 21, 3) := dk_183 0 21 (dk_at dksX1_requireIndex_0 17 rfl rfl)
theorem dX1_requireIndex_20 : decode cX1_requireIndex 20 = .ok (.athrow, 1) := dk_191 (dk_at dksX1_requireIndex_0 20 rfl rfl)
theorem dX1_requireIndex_21 : decode cX1_requireIndex 21 = .ok (.return_, 1) := dk_177 (dk_at dksX1_requireIndex_0 21 rfl rfl)
abbrev cX1_cueFrame : ByteArray := prog_1_method_22_code
def yX1_cueFrame : MethodName := ⟨RX1, "cueFrame", "(I)I"⟩
def dkwX1_cueFrame_0 : List UInt8 := [42, 27, 182, 0, 140, 180, 0, 174, 172]
abbrev dktX1_cueFrame_0 : List UInt8 := dkwX1_cueFrame_0 ++ []
theorem dksX1_cueFrame_0 : cX1_cueFrame.data.toList.drop 0 = dktX1_cueFrame_0 := by decide +kernel
theorem dX1_cueFrame_0 : decode cX1_cueFrame 0 = .ok (.aload_n 0, 1) := dk_42 (dk_at dksX1_cueFrame_0 0 rfl rfl)
theorem dX1_cueFrame_1 : decode cX1_cueFrame 1 = .ok (.iload_n 1, 1) := dk_27 (dk_at dksX1_cueFrame_0 1 rfl rfl)
theorem dX1_cueFrame_2 : decode cX1_cueFrame 2 = .ok (.invokevirtual 140, 3) := dk_182 0 140 (dk_at dksX1_cueFrame_0 2 rfl rfl)
theorem dX1_cueFrame_5 : decode cX1_cueFrame 5 = .ok (.getfield 174, 3) := dk_180 0 174 (dk_at dksX1_cueFrame_0 5 rfl rfl)
theorem dX1_cueFrame_8 : decode cX1_cueFrame 8 = .ok (.ireturn, 1) := dk_172 (dk_at dksX1_cueFrame_0 8 rfl rfl)
abbrev cX1_cue : ByteArray := prog_1_method_15_code
def yX1_cue : MethodName := ⟨RX1, "cue", "(I)LCameraMoves$Cue;"⟩
def dkwX1_cue_1 : List UInt8 := [182, 0, 122, 192, 0, 128, 176]
abbrev dktX1_cue_1 : List UInt8 := dkwX1_cue_1 ++ []
def dkwX1_cue_0 : List UInt8 := [27, 42, 180, 0, 39, 180, 0, 114, 182, 0, 118, 184, 0, 22, 42, 180, 0, 39, 180, 0, 114, 27]
abbrev dktX1_cue_0 : List UInt8 := dkwX1_cue_0 ++ dktX1_cue_1
theorem dksX1_cue_0 : cX1_cue.data.toList.drop 0 = dktX1_cue_0 := by decide +kernel
theorem dksX1_cue_1 : cX1_cue.data.toList.drop 22 = dktX1_cue_1 := dk_seg dksX1_cue_0 22 rfl rfl
theorem dX1_cue_0 : decode cX1_cue 0 = .ok (.iload_n 1, 1) := dk_27 (dk_at dksX1_cue_0 0 rfl rfl)
theorem dX1_cue_1 : decode cX1_cue 1 = .ok (.aload_n 0, 1) := dk_42 (dk_at dksX1_cue_0 1 rfl rfl)
theorem dX1_cue_2 : decode cX1_cue 2 = .ok (.getfield 39, 3) := dk_180 0 39 (dk_at dksX1_cue_0 2 rfl rfl)
theorem dX1_cue_5 : decode cX1_cue 5 = .ok (.getfield 114, 3) := dk_180 0 114 (dk_at dksX1_cue_0 5 rfl rfl)
theorem dX1_cue_8 : decode cX1_cue 8 = .ok (.invokevirtual 118, 3) := dk_182 0 118 (dk_at dksX1_cue_0 8 rfl rfl)
theorem dX1_cue_11 : decode cX1_cue 11 = .ok (.invokestatic 22, 3) := dk_184 0 22 (dk_at dksX1_cue_0 11 rfl rfl)
theorem dX1_cue_14 : decode cX1_cue 14 = .ok (.aload_n 0, 1) := dk_42 (dk_at dksX1_cue_0 14 rfl rfl)
theorem dX1_cue_15 : decode cX1_cue 15 = .ok (.getfield 39, 3) := dk_180 0 39 (dk_at dksX1_cue_0 15 rfl rfl)
theorem dX1_cue_18 : decode cX1_cue 18 = .ok (.getfield 114, 3) := dk_180 0 114 (dk_at dksX1_cue_0 18 rfl rfl)
theorem dX1_cue_21 : decode cX1_cue 21 = .ok (.iload_n 1, 1) := dk_27 (dk_at dksX1_cue_0 21 rfl rfl)
theorem dX1_cue_22 : decode cX1_cue 22 = .ok (.invokevirtual 122, 3) := dk_182 0 122 (dk_at dksX1_cue_1 0 rfl rfl)
theorem dX1_cue_25 : decode cX1_cue 25 = .ok (.checkcast 128, 3) := dk_192 0 128 (dk_at dksX1_cue_1 3 rfl rfl)
theorem dX1_cue_28 : decode cX1_cue 28 = .ok (.areturn, 1) := dk_176 (dk_at dksX1_cue_1 6 rfl rfl)
abbrev cX1_cueLength : ByteArray := prog_1_method_23_code
def yX1_cueLength : MethodName := ⟨RX1, "cueLength", "(I)I"⟩
def dkwX1_cueLength_0 : List UInt8 := [42, 27, 182, 0, 140, 180, 0, 177, 172]
abbrev dktX1_cueLength_0 : List UInt8 := dkwX1_cueLength_0 ++ []
theorem dksX1_cueLength_0 : cX1_cueLength.data.toList.drop 0 = dktX1_cueLength_0 := by decide +kernel
theorem dX1_cueLength_0 : decode cX1_cueLength 0 = .ok (.aload_n 0, 1) := dk_42 (dk_at dksX1_cueLength_0 0 rfl rfl)
theorem dX1_cueLength_1 : decode cX1_cueLength 1 = .ok (.iload_n 1, 1) := dk_27 (dk_at dksX1_cueLength_0 1 rfl rfl)
theorem dX1_cueLength_2 : decode cX1_cueLength 2 = .ok (.invokevirtual 140, 3) := dk_182 0 140 (dk_at dksX1_cueLength_0 2 rfl rfl)
theorem dX1_cueLength_5 : decode cX1_cueLength 5 = .ok (.getfield 177, 3) := dk_180 0 177 (dk_at dksX1_cueLength_0 5 rfl rfl)
theorem dX1_cueLength_8 : decode cX1_cueLength 8 = .ok (.ireturn, 1) := dk_172 (dk_at dksX1_cueLength_0 8 rfl rfl)
abbrev cX1_target : ByteArray := prog_1_method_24_code
def yX1_target : MethodName := ⟨RX1, "target", "(II)I"⟩
def dkwX1_target_0 : List UInt8 := [42, 27, 28, 182, 0, 178, 180, 0, 182, 28, 46, 172]
abbrev dktX1_target_0 : List UInt8 := dkwX1_target_0 ++ []
theorem dksX1_target_0 : cX1_target.data.toList.drop 0 = dktX1_target_0 := by decide +kernel
theorem dX1_target_0 : decode cX1_target 0 = .ok (.aload_n 0, 1) := dk_42 (dk_at dksX1_target_0 0 rfl rfl)
theorem dX1_target_1 : decode cX1_target 1 = .ok (.iload_n 1, 1) := dk_27 (dk_at dksX1_target_0 1 rfl rfl)
theorem dX1_target_2 : decode cX1_target 2 = .ok (.iload_n 2, 1) := dk_28 (dk_at dksX1_target_0 2 rfl rfl)
theorem dX1_target_3 : decode cX1_target 3 = .ok (.invokevirtual 178, 3) := dk_182 0 178 (dk_at dksX1_target_0 3 rfl rfl)
theorem dX1_target_6 : decode cX1_target 6 = .ok (.getfield 182, 3) := dk_180 0 182 (dk_at dksX1_target_0 6 rfl rfl)
theorem dX1_target_9 : decode cX1_target 9 = .ok (.iload_n 2, 1) := dk_28 (dk_at dksX1_target_0 9 rfl rfl)
theorem dX1_target_10 : decode cX1_target 10 = .ok (.iaload, 1) := dk_46 (dk_at dksX1_target_0 10 rfl rfl)
theorem dX1_target_11 : decode cX1_target 11 = .ok (.ireturn, 1) := dk_172 (dk_at dksX1_target_0 11 rfl rfl)
abbrev cX1_aimed : ByteArray := prog_1_method_18_code
def yX1_aimed : MethodName := ⟨RX1, "aimed", "(II)LCameraMoves$Cue;"⟩
def dkwX1_aimed_1 : List UInt8 := [45, 176]
abbrev dktX1_aimed_1 : List UInt8 := dkwX1_aimed_1 ++ []
def dkwX1_aimed_0 : List UInt8 := [42, 27, 182, 0, 140, 78, 42, 28, 182, 0, 144, 58, 4, 45, 180, 0, 148, 28, 184, 0, 150, 184, 0, 154]
abbrev dktX1_aimed_0 : List UInt8 := dkwX1_aimed_0 ++ dktX1_aimed_1
theorem dksX1_aimed_0 : cX1_aimed.data.toList.drop 0 = dktX1_aimed_0 := by decide +kernel
theorem dksX1_aimed_1 : cX1_aimed.data.toList.drop 24 = dktX1_aimed_1 := dk_seg dksX1_aimed_0 24 rfl rfl
theorem dX1_aimed_0 : decode cX1_aimed 0 = .ok (.aload_n 0, 1) := dk_42 (dk_at dksX1_aimed_0 0 rfl rfl)
theorem dX1_aimed_1 : decode cX1_aimed 1 = .ok (.iload_n 1, 1) := dk_27 (dk_at dksX1_aimed_0 1 rfl rfl)
theorem dX1_aimed_2 : decode cX1_aimed 2 = .ok (.invokevirtual 140, 3) := dk_182 0 140 (dk_at dksX1_aimed_0 2 rfl rfl)
theorem dX1_aimed_5 : decode cX1_aimed 5 = .ok (.astore_n 3, 1) := dk_78 (dk_at dksX1_aimed_0 5 rfl rfl)
theorem dX1_aimed_6 : decode cX1_aimed 6 = .ok (.aload_n 0, 1) := dk_42 (dk_at dksX1_aimed_0 6 rfl rfl)
theorem dX1_aimed_7 : decode cX1_aimed 7 = .ok (.iload_n 2, 1) := dk_28 (dk_at dksX1_aimed_0 7 rfl rfl)
theorem dX1_aimed_8 : decode cX1_aimed 8 = .ok (.invokevirtual 144, 3) := dk_182 0 144 (dk_at dksX1_aimed_0 8 rfl rfl)
theorem dX1_aimed_11 : decode cX1_aimed 11 = .ok (.astore 4, 2) := dk_58 4 (dk_at dksX1_aimed_0 11 rfl rfl)
theorem dX1_aimed_13 : decode cX1_aimed 13 = .ok (.aload_n 3, 1) := dk_45 (dk_at dksX1_aimed_0 13 rfl rfl)
theorem dX1_aimed_14 : decode cX1_aimed 14 = .ok (.getfield 148, 3) := dk_180 0 148 (dk_at dksX1_aimed_0 14 rfl rfl)
theorem dX1_aimed_17 : decode cX1_aimed 17 = .ok (.iload_n 2, 1) := dk_28 (dk_at dksX1_aimed_0 17 rfl rfl)
theorem dX1_aimed_18 : decode cX1_aimed 18 = .ok (.invokestatic 150, 3) := dk_184 0 150 (dk_at dksX1_aimed_0 18 rfl rfl)
theorem dX1_aimed_21 : decode cX1_aimed 21 = .ok (.invokestatic 154, 3) := dk_184 0 154 (dk_at dksX1_aimed_0 21 rfl rfl)
theorem dX1_aimed_24 : decode cX1_aimed 24 = .ok (.aload_n 3, 1) := dk_45 (dk_at dksX1_aimed_1 0 rfl rfl)
theorem dX1_aimed_25 : decode cX1_aimed 25 = .ok (.areturn, 1) := dk_176 (dk_at dksX1_aimed_1 1 rfl rfl)
abbrev cX1_leastFrames : ByteArray := prog_1_method_26_code
def yX1_leastFrames : MethodName := ⟨RX1, "leastFrames", "(II)I"⟩
def dkwX1_leastFrames_0 : List UInt8 := [42, 27, 182, 0, 144, 78, 28, 184, 0, 190, 45, 28, 182, 0, 193, 172]
abbrev dktX1_leastFrames_0 : List UInt8 := dkwX1_leastFrames_0 ++ []
theorem dksX1_leastFrames_0 : cX1_leastFrames.data.toList.drop 0 = dktX1_leastFrames_0 := by decide +kernel
theorem dX1_leastFrames_0 : decode cX1_leastFrames 0 = .ok (.aload_n 0, 1) := dk_42 (dk_at dksX1_leastFrames_0 0 rfl rfl)
theorem dX1_leastFrames_1 : decode cX1_leastFrames 1 = .ok (.iload_n 1, 1) := dk_27 (dk_at dksX1_leastFrames_0 1 rfl rfl)
theorem dX1_leastFrames_2 : decode cX1_leastFrames 2 = .ok (.invokevirtual 144, 3) := dk_182 0 144 (dk_at dksX1_leastFrames_0 2 rfl rfl)
theorem dX1_leastFrames_5 : decode cX1_leastFrames 5 = .ok (.astore_n 3, 1) := dk_78 (dk_at dksX1_leastFrames_0 5 rfl rfl)
theorem dX1_leastFrames_6 : decode cX1_leastFrames 6 = .ok (.iload_n 2, 1) := dk_28 (dk_at dksX1_leastFrames_0 6 rfl rfl)
theorem dX1_leastFrames_7 : decode cX1_leastFrames 7 = .ok (.invokestatic 190, 3) := dk_184 0 190 (dk_at dksX1_leastFrames_0 7 rfl rfl)
theorem dX1_leastFrames_10 : decode cX1_leastFrames 10 = .ok (.aload_n 3, 1) := dk_45 (dk_at dksX1_leastFrames_0 10 rfl rfl)
theorem dX1_leastFrames_11 : decode cX1_leastFrames 11 = .ok (.iload_n 2, 1) := dk_28 (dk_at dksX1_leastFrames_0 11 rfl rfl)
theorem dX1_leastFrames_12 : decode cX1_leastFrames 12 = .ok (.invokevirtual 193, 3) := dk_182 0 193 (dk_at dksX1_leastFrames_0 12 rfl rfl)
theorem dX1_leastFrames_15 : decode cX1_leastFrames 15 = .ok (.ireturn, 1) := dk_172 (dk_at dksX1_leastFrames_0 15 rfl rfl)
abbrev cX1_requireDistance : ByteArray := prog_1_method_25_code
def yX1_requireDistance : MethodName := ⟨RX1, "requireDistance", "(I)V"⟩
def dkwX1_requireDistance_0 : List UInt8 := [26, 133, 20, 0, 186, 20, 0, 188, 184, 0, 15, 184, 0, 95, 177]
abbrev dktX1_requireDistance_0 : List UInt8 := dkwX1_requireDistance_0 ++ []
theorem dksX1_requireDistance_0 : cX1_requireDistance.data.toList.drop 0 = dktX1_requireDistance_0 := by decide +kernel
theorem dX1_requireDistance_0 : decode cX1_requireDistance 0 = .ok (.iload_n 0, 1) := dk_26 (dk_at dksX1_requireDistance_0 0 rfl rfl)
theorem dX1_requireDistance_1 : decode cX1_requireDistance 1 = .ok (.i2l, 1) := dk_133 (dk_at dksX1_requireDistance_0 1 rfl rfl)
theorem dX1_requireDistance_2 : decode cX1_requireDistance 2 = .ok (.ldc2_w 186, 3) := dk_20 0 186 (dk_at dksX1_requireDistance_0 2 rfl rfl)
theorem dX1_requireDistance_5 : decode cX1_requireDistance 5 = .ok (.ldc2_w 188, 3) := dk_20 0 188 (dk_at dksX1_requireDistance_0 5 rfl rfl)
theorem dX1_requireDistance_8 : decode cX1_requireDistance 8 = .ok (.invokestatic 15, 3) := dk_184 0 15 (dk_at dksX1_requireDistance_0 8 rfl rfl)
theorem dX1_requireDistance_11 : decode cX1_requireDistance 11 = .ok (.invokestatic 95, 3) := dk_184 0 95 (dk_at dksX1_requireDistance_0 11 rfl rfl)
theorem dX1_requireDistance_14 : decode cX1_requireDistance 14 = .ok (.return_, 1) := dk_177 (dk_at dksX1_requireDistance_0 14 rfl rfl)
abbrev cX1_rampSpeed : ByteArray := prog_1_method_27_code
def yX1_rampSpeed : MethodName := ⟨RX1, "rampSpeed", "(IIII)I"⟩
def dkwX1_rampSpeed_3 : List UInt8 := [28, 29, 183, 0, 209, 21, 4, 182, 0, 212, 172]
abbrev dktX1_rampSpeed_3 : List UInt8 := dkwX1_rampSpeed_3 ++ []
def dkwX1_rampSpeed_2 : List UInt8 := [182, 0, 199, 28, 184, 0, 202, 161, 0, 7, 4, 167, 0, 4, 3, 184, 0, 154, 187, 0, 207, 89, 25, 5]
abbrev dktX1_rampSpeed_2 : List UInt8 := dkwX1_rampSpeed_2 ++ dktX1_rampSpeed_3
def dkwX1_rampSpeed_1 : List UInt8 := [21, 4, 133, 10, 29, 133, 184, 0, 15, 153, 0, 7, 4, 167, 0, 4, 3, 184, 0, 95, 25, 5, 29]
abbrev dktX1_rampSpeed_1 : List UInt8 := dkwX1_rampSpeed_1 ++ dktX1_rampSpeed_2
def dkwX1_rampSpeed_0 : List UInt8 := [42, 27, 182, 0, 144, 58, 5, 28, 184, 0, 190, 29, 133, 10, 20, 0, 197, 184, 0, 15, 153, 0, 19]
abbrev dktX1_rampSpeed_0 : List UInt8 := dkwX1_rampSpeed_0 ++ dktX1_rampSpeed_1
theorem dksX1_rampSpeed_0 : cX1_rampSpeed.data.toList.drop 0 = dktX1_rampSpeed_0 := by decide +kernel
theorem dksX1_rampSpeed_1 : cX1_rampSpeed.data.toList.drop 23 = dktX1_rampSpeed_1 := dk_seg dksX1_rampSpeed_0 23 rfl rfl
theorem dksX1_rampSpeed_2 : cX1_rampSpeed.data.toList.drop 46 = dktX1_rampSpeed_2 := dk_seg dksX1_rampSpeed_1 23 rfl rfl
theorem dksX1_rampSpeed_3 : cX1_rampSpeed.data.toList.drop 70 = dktX1_rampSpeed_3 := dk_seg dksX1_rampSpeed_2 24 rfl rfl
theorem dX1_rampSpeed_0 : decode cX1_rampSpeed 0 = .ok (.aload_n 0, 1) := dk_42 (dk_at dksX1_rampSpeed_0 0 rfl rfl)
theorem dX1_rampSpeed_1 : decode cX1_rampSpeed 1 = .ok (.iload_n 1, 1) := dk_27 (dk_at dksX1_rampSpeed_0 1 rfl rfl)
theorem dX1_rampSpeed_2 : decode cX1_rampSpeed 2 = .ok (.invokevirtual 144, 3) := dk_182 0 144 (dk_at dksX1_rampSpeed_0 2 rfl rfl)
theorem dX1_rampSpeed_5 : decode cX1_rampSpeed 5 = .ok (.astore 5, 2) := dk_58 5 (dk_at dksX1_rampSpeed_0 5 rfl rfl)
theorem dX1_rampSpeed_7 : decode cX1_rampSpeed 7 = .ok (.iload_n 2, 1) := dk_28 (dk_at dksX1_rampSpeed_0 7 rfl rfl)
theorem dX1_rampSpeed_8 : decode cX1_rampSpeed 8 = .ok (.invokestatic 190, 3) := dk_184 0 190 (dk_at dksX1_rampSpeed_0 8 rfl rfl)
theorem dX1_rampSpeed_11 : decode cX1_rampSpeed 11 = .ok (.iload_n 3, 1) := dk_29 (dk_at dksX1_rampSpeed_0 11 rfl rfl)
theorem dX1_rampSpeed_12 : decode cX1_rampSpeed 12 = .ok (.i2l, 1) := dk_133 (dk_at dksX1_rampSpeed_0 12 rfl rfl)
theorem dX1_rampSpeed_13 : decode cX1_rampSpeed 13 = .ok (.lconst 1, 1) := dk_10 (dk_at dksX1_rampSpeed_0 13 rfl rfl)
theorem dX1_rampSpeed_14 : decode cX1_rampSpeed 14 = .ok (.ldc2_w 197, 3) := dk_20 0 197 (dk_at dksX1_rampSpeed_0 14 rfl rfl)
theorem dX1_rampSpeed_17 : decode cX1_rampSpeed 17 = .ok (.invokestatic 15, 3) := dk_184 0 15 (dk_at dksX1_rampSpeed_0 17 rfl rfl)
theorem dX1_rampSpeed_20 : decode cX1_rampSpeed 20 = .ok (.ifCond .eq 19, 3) := dk_153 0 19 (dk_at dksX1_rampSpeed_0 20 rfl rfl)
theorem dX1_rampSpeed_23 : decode cX1_rampSpeed 23 = .ok (.iload 4, 2) := dk_21 4 (dk_at dksX1_rampSpeed_1 0 rfl rfl)
theorem dX1_rampSpeed_25 : decode cX1_rampSpeed 25 = .ok (.i2l, 1) := dk_133 (dk_at dksX1_rampSpeed_1 2 rfl rfl)
theorem dX1_rampSpeed_26 : decode cX1_rampSpeed 26 = .ok (.lconst 1, 1) := dk_10 (dk_at dksX1_rampSpeed_1 3 rfl rfl)
theorem dX1_rampSpeed_27 : decode cX1_rampSpeed 27 = .ok (.iload_n 3, 1) := dk_29 (dk_at dksX1_rampSpeed_1 4 rfl rfl)
theorem dX1_rampSpeed_28 : decode cX1_rampSpeed 28 = .ok (.i2l, 1) := dk_133 (dk_at dksX1_rampSpeed_1 5 rfl rfl)
theorem dX1_rampSpeed_29 : decode cX1_rampSpeed 29 = .ok (.invokestatic 15, 3) := dk_184 0 15 (dk_at dksX1_rampSpeed_1 6 rfl rfl)
theorem dX1_rampSpeed_32 : decode cX1_rampSpeed 32 = .ok (.ifCond .eq 7, 3) := dk_153 0 7 (dk_at dksX1_rampSpeed_1 9 rfl rfl)
theorem dX1_rampSpeed_35 : decode cX1_rampSpeed 35 = .ok (.iconst 1, 1) := dk_4 (dk_at dksX1_rampSpeed_1 12 rfl rfl)
theorem dX1_rampSpeed_36 : decode cX1_rampSpeed 36 = .ok (.goto 4, 3) := dk_167 0 4 (dk_at dksX1_rampSpeed_1 13 rfl rfl)
theorem dX1_rampSpeed_39 : decode cX1_rampSpeed 39 = .ok (.iconst 0, 1) := dk_3 (dk_at dksX1_rampSpeed_1 16 rfl rfl)
theorem dX1_rampSpeed_40 : decode cX1_rampSpeed 40 = .ok (.invokestatic 95, 3) := dk_184 0 95 (dk_at dksX1_rampSpeed_1 17 rfl rfl)
theorem dX1_rampSpeed_43 : decode cX1_rampSpeed 43 = .ok (.aload 5, 2) := dk_25 5 (dk_at dksX1_rampSpeed_1 20 rfl rfl)
theorem dX1_rampSpeed_45 : decode cX1_rampSpeed 45 = .ok (.iload_n 3, 1) := dk_29 (dk_at dksX1_rampSpeed_1 22 rfl rfl)
theorem dX1_rampSpeed_46 : decode cX1_rampSpeed 46 = .ok (.invokevirtual 199, 3) := dk_182 0 199 (dk_at dksX1_rampSpeed_2 0 rfl rfl)
theorem dX1_rampSpeed_49 : decode cX1_rampSpeed 49 = .ok (.iload_n 2, 1) := dk_28 (dk_at dksX1_rampSpeed_2 3 rfl rfl)
theorem dX1_rampSpeed_50 : decode cX1_rampSpeed 50 = .ok (.invokestatic 202, 3) := dk_184 0 202 (dk_at dksX1_rampSpeed_2 4 rfl rfl)
theorem dX1_rampSpeed_53 : decode cX1_rampSpeed 53 = .ok (.if_icmp .lt 7, 3) := dk_161 0 7 (dk_at dksX1_rampSpeed_2 7 rfl rfl)
theorem dX1_rampSpeed_56 : decode cX1_rampSpeed 56 = .ok (.iconst 1, 1) := dk_4 (dk_at dksX1_rampSpeed_2 10 rfl rfl)
theorem dX1_rampSpeed_57 : decode cX1_rampSpeed 57 = .ok (.goto 4, 3) := dk_167 0 4 (dk_at dksX1_rampSpeed_2 11 rfl rfl)
theorem dX1_rampSpeed_60 : decode cX1_rampSpeed 60 = .ok (.iconst 0, 1) := dk_3 (dk_at dksX1_rampSpeed_2 14 rfl rfl)
theorem dX1_rampSpeed_61 : decode cX1_rampSpeed 61 = .ok (.invokestatic 154, 3) := dk_184 0 154 (dk_at dksX1_rampSpeed_2 15 rfl rfl)
theorem dX1_rampSpeed_64 : decode cX1_rampSpeed 64 = .ok (.new 207, 3) := dk_187 0 207 (dk_at dksX1_rampSpeed_2 18 rfl rfl)
theorem dX1_rampSpeed_67 : decode cX1_rampSpeed 67 = .ok (.dup, 1) := dk_89 (dk_at dksX1_rampSpeed_2 21 rfl rfl)
theorem dX1_rampSpeed_68 : decode cX1_rampSpeed 68 = .ok (.aload 5, 2) := dk_25 5 (dk_at dksX1_rampSpeed_2 22 rfl rfl)
theorem dX1_rampSpeed_70 : decode cX1_rampSpeed 70 = .ok (.iload_n 2, 1) := dk_28 (dk_at dksX1_rampSpeed_3 0 rfl rfl)
theorem dX1_rampSpeed_71 : decode cX1_rampSpeed 71 = .ok (.iload_n 3, 1) := dk_29 (dk_at dksX1_rampSpeed_3 1 rfl rfl)
theorem dX1_rampSpeed_72 : decode cX1_rampSpeed 72 = .ok (.invokespecial 209, 3) := dk_183 0 209 (dk_at dksX1_rampSpeed_3 2 rfl rfl)
theorem dX1_rampSpeed_75 : decode cX1_rampSpeed 75 = .ok (.iload 4, 2) := dk_21 4 (dk_at dksX1_rampSpeed_3 5 rfl rfl)
theorem dX1_rampSpeed_77 : decode cX1_rampSpeed 77 = .ok (.invokevirtual 212, 3) := dk_182 0 212 (dk_at dksX1_rampSpeed_3 7 rfl rfl)
theorem dX1_rampSpeed_80 : decode cX1_rampSpeed 80 = .ok (.ireturn, 1) := dk_172 (dk_at dksX1_rampSpeed_3 10 rfl rfl)
abbrev cX1_reach : ByteArray := prog_1_method_28_code
def yX1_reach : MethodName := ⟨RX1, "reach", "(II)I"⟩
def dkwX1_reach_0 : List UInt8 := [42, 27, 182, 0, 144, 78, 28, 133, 10, 20, 0, 197, 184, 0, 15, 184, 0, 95, 45, 28, 182, 0, 199, 172]
abbrev dktX1_reach_0 : List UInt8 := dkwX1_reach_0 ++ []
theorem dksX1_reach_0 : cX1_reach.data.toList.drop 0 = dktX1_reach_0 := by decide +kernel
theorem dX1_reach_0 : decode cX1_reach 0 = .ok (.aload_n 0, 1) := dk_42 (dk_at dksX1_reach_0 0 rfl rfl)
theorem dX1_reach_1 : decode cX1_reach 1 = .ok (.iload_n 1, 1) := dk_27 (dk_at dksX1_reach_0 1 rfl rfl)
theorem dX1_reach_2 : decode cX1_reach 2 = .ok (.invokevirtual 144, 3) := dk_182 0 144 (dk_at dksX1_reach_0 2 rfl rfl)
theorem dX1_reach_5 : decode cX1_reach 5 = .ok (.astore_n 3, 1) := dk_78 (dk_at dksX1_reach_0 5 rfl rfl)
theorem dX1_reach_6 : decode cX1_reach 6 = .ok (.iload_n 2, 1) := dk_28 (dk_at dksX1_reach_0 6 rfl rfl)
theorem dX1_reach_7 : decode cX1_reach 7 = .ok (.i2l, 1) := dk_133 (dk_at dksX1_reach_0 7 rfl rfl)
theorem dX1_reach_8 : decode cX1_reach 8 = .ok (.lconst 1, 1) := dk_10 (dk_at dksX1_reach_0 8 rfl rfl)
theorem dX1_reach_9 : decode cX1_reach 9 = .ok (.ldc2_w 197, 3) := dk_20 0 197 (dk_at dksX1_reach_0 9 rfl rfl)
theorem dX1_reach_12 : decode cX1_reach 12 = .ok (.invokestatic 15, 3) := dk_184 0 15 (dk_at dksX1_reach_0 12 rfl rfl)
theorem dX1_reach_15 : decode cX1_reach 15 = .ok (.invokestatic 95, 3) := dk_184 0 95 (dk_at dksX1_reach_0 15 rfl rfl)
theorem dX1_reach_18 : decode cX1_reach 18 = .ok (.aload_n 3, 1) := dk_45 (dk_at dksX1_reach_0 18 rfl rfl)
theorem dX1_reach_19 : decode cX1_reach 19 = .ok (.iload_n 2, 1) := dk_28 (dk_at dksX1_reach_0 19 rfl rfl)
theorem dX1_reach_20 : decode cX1_reach 20 = .ok (.invokevirtual 199, 3) := dk_182 0 199 (dk_at dksX1_reach_0 20 rfl rfl)
theorem dX1_reach_23 : decode cX1_reach 23 = .ok (.ireturn, 1) := dk_172 (dk_at dksX1_reach_0 23 rfl rfl)
abbrev cX1_status : ByteArray := prog_1_method_31_code
def yX1_status : MethodName := ⟨RX1, "status", "(II)I"⟩
def dkwX1_status_0 : List UInt8 := [42, 27, 28, 182, 0, 178, 78, 42, 182, 0, 221, 180, 0, 225, 7, 27, 104, 28, 96, 46, 172]
abbrev dktX1_status_0 : List UInt8 := dkwX1_status_0 ++ []
theorem dksX1_status_0 : cX1_status.data.toList.drop 0 = dktX1_status_0 := by decide +kernel
theorem dX1_status_0 : decode cX1_status 0 = .ok (.aload_n 0, 1) := dk_42 (dk_at dksX1_status_0 0 rfl rfl)
theorem dX1_status_1 : decode cX1_status 1 = .ok (.iload_n 1, 1) := dk_27 (dk_at dksX1_status_0 1 rfl rfl)
theorem dX1_status_2 : decode cX1_status 2 = .ok (.iload_n 2, 1) := dk_28 (dk_at dksX1_status_0 2 rfl rfl)
theorem dX1_status_3 : decode cX1_status 3 = .ok (.invokevirtual 178, 3) := dk_182 0 178 (dk_at dksX1_status_0 3 rfl rfl)
theorem dX1_status_6 : decode cX1_status 6 = .ok (.astore_n 3, 1) := dk_78 (dk_at dksX1_status_0 6 rfl rfl)
theorem dX1_status_7 : decode cX1_status 7 = .ok (.aload_n 0, 1) := dk_42 (dk_at dksX1_status_0 7 rfl rfl)
theorem dX1_status_8 : decode cX1_status 8 = .ok (.invokevirtual 221, 3) := dk_182 0 221 (dk_at dksX1_status_0 8 rfl rfl)
theorem dX1_status_11 : decode cX1_status 11 = .ok (.getfield 225, 3) := dk_180 0 225 (dk_at dksX1_status_0 11 rfl rfl)
theorem dX1_status_14 : decode cX1_status 14 = .ok (.iconst 4, 1) := dk_7 (dk_at dksX1_status_0 14 rfl rfl)
theorem dX1_status_15 : decode cX1_status 15 = .ok (.iload_n 1, 1) := dk_27 (dk_at dksX1_status_0 15 rfl rfl)
theorem dX1_status_16 : decode cX1_status 16 = .ok (.imul, 1) := dk_104 (dk_at dksX1_status_0 16 rfl rfl)
theorem dX1_status_17 : decode cX1_status 17 = .ok (.iload_n 2, 1) := dk_28 (dk_at dksX1_status_0 17 rfl rfl)
theorem dX1_status_18 : decode cX1_status 18 = .ok (.iadd, 1) := dk_96 (dk_at dksX1_status_0 18 rfl rfl)
theorem dX1_status_19 : decode cX1_status 19 = .ok (.iaload, 1) := dk_46 (dk_at dksX1_status_0 19 rfl rfl)
theorem dX1_status_20 : decode cX1_status 20 = .ok (.ireturn, 1) := dk_172 (dk_at dksX1_status_0 20 rfl rfl)
abbrev cX1_distance : ByteArray := prog_1_method_32_code
def yX1_distance : MethodName := ⟨RX1, "distance", "(II)I"⟩
def dkwX1_distance_0 : List UInt8 := [42, 27, 28, 182, 0, 178, 78, 42, 182, 0, 221, 180, 0, 228, 7, 27, 104, 28, 96, 46, 172]
abbrev dktX1_distance_0 : List UInt8 := dkwX1_distance_0 ++ []
theorem dksX1_distance_0 : cX1_distance.data.toList.drop 0 = dktX1_distance_0 := by decide +kernel
theorem dX1_distance_0 : decode cX1_distance 0 = .ok (.aload_n 0, 1) := dk_42 (dk_at dksX1_distance_0 0 rfl rfl)
theorem dX1_distance_1 : decode cX1_distance 1 = .ok (.iload_n 1, 1) := dk_27 (dk_at dksX1_distance_0 1 rfl rfl)
theorem dX1_distance_2 : decode cX1_distance 2 = .ok (.iload_n 2, 1) := dk_28 (dk_at dksX1_distance_0 2 rfl rfl)
theorem dX1_distance_3 : decode cX1_distance 3 = .ok (.invokevirtual 178, 3) := dk_182 0 178 (dk_at dksX1_distance_0 3 rfl rfl)
theorem dX1_distance_6 : decode cX1_distance 6 = .ok (.astore_n 3, 1) := dk_78 (dk_at dksX1_distance_0 6 rfl rfl)
theorem dX1_distance_7 : decode cX1_distance 7 = .ok (.aload_n 0, 1) := dk_42 (dk_at dksX1_distance_0 7 rfl rfl)
theorem dX1_distance_8 : decode cX1_distance 8 = .ok (.invokevirtual 221, 3) := dk_182 0 221 (dk_at dksX1_distance_0 8 rfl rfl)
theorem dX1_distance_11 : decode cX1_distance 11 = .ok (.getfield 228, 3) := dk_180 0 228 (dk_at dksX1_distance_0 11 rfl rfl)
theorem dX1_distance_14 : decode cX1_distance 14 = .ok (.iconst 4, 1) := dk_7 (dk_at dksX1_distance_0 14 rfl rfl)
theorem dX1_distance_15 : decode cX1_distance 15 = .ok (.iload_n 1, 1) := dk_27 (dk_at dksX1_distance_0 15 rfl rfl)
theorem dX1_distance_16 : decode cX1_distance 16 = .ok (.imul, 1) := dk_104 (dk_at dksX1_distance_0 16 rfl rfl)
theorem dX1_distance_17 : decode cX1_distance 17 = .ok (.iload_n 2, 1) := dk_28 (dk_at dksX1_distance_0 17 rfl rfl)
theorem dX1_distance_18 : decode cX1_distance 18 = .ok (.iadd, 1) := dk_96 (dk_at dksX1_distance_0 18 rfl rfl)
theorem dX1_distance_19 : decode cX1_distance 19 = .ok (.iaload, 1) := dk_46 (dk_at dksX1_distance_0 19 rfl rfl)
theorem dX1_distance_20 : decode cX1_distance 20 = .ok (.ireturn, 1) := dk_172 (dk_at dksX1_distance_0 20 rfl rfl)
abbrev cX1_leastLength : ByteArray := prog_1_method_35_code
def yX1_leastLength : MethodName := ⟨RX1, "leastLength", "(I)I"⟩
def dkwX1_leastLength_0 : List UInt8 := [42, 27, 182, 0, 140, 77, 42, 27, 182, 0, 240, 172]
abbrev dktX1_leastLength_0 : List UInt8 := dkwX1_leastLength_0 ++ []
theorem dksX1_leastLength_0 : cX1_leastLength.data.toList.drop 0 = dktX1_leastLength_0 := by decide +kernel
theorem dX1_leastLength_0 : decode cX1_leastLength 0 = .ok (.aload_n 0, 1) := dk_42 (dk_at dksX1_leastLength_0 0 rfl rfl)
theorem dX1_leastLength_1 : decode cX1_leastLength 1 = .ok (.iload_n 1, 1) := dk_27 (dk_at dksX1_leastLength_0 1 rfl rfl)
theorem dX1_leastLength_2 : decode cX1_leastLength 2 = .ok (.invokevirtual 140, 3) := dk_182 0 140 (dk_at dksX1_leastLength_0 2 rfl rfl)
theorem dX1_leastLength_5 : decode cX1_leastLength 5 = .ok (.astore_n 2, 1) := dk_77 (dk_at dksX1_leastLength_0 5 rfl rfl)
theorem dX1_leastLength_6 : decode cX1_leastLength 6 = .ok (.aload_n 0, 1) := dk_42 (dk_at dksX1_leastLength_0 6 rfl rfl)
theorem dX1_leastLength_7 : decode cX1_leastLength 7 = .ok (.iload_n 1, 1) := dk_27 (dk_at dksX1_leastLength_0 7 rfl rfl)
theorem dX1_leastLength_8 : decode cX1_leastLength 8 = .ok (.invokevirtual 240, 3) := dk_182 0 240 (dk_at dksX1_leastLength_0 8 rfl rfl)
theorem dX1_leastLength_11 : decode cX1_leastLength 11 = .ok (.ireturn, 1) := dk_172 (dk_at dksX1_leastLength_0 11 rfl rfl)
abbrev cX1_leastOf : ByteArray := prog_1_method_34_code
def yX1_leastOf : MethodName := ⟨RX1, "leastOf", "(I)I"⟩
def dkwX1_leastOf_4 : List UInt8 := [172]
abbrev dktX1_leastOf_4 : List UInt8 := dkwX1_leastOf_4 ++ []
def dkwX1_leastOf_3 : List UInt8 := [180, 0, 228, 7, 27, 104, 21, 4, 96, 46, 182, 0, 193, 184, 0, 236, 62, 132, 4, 1, 167, 255, 179, 29]
abbrev dktX1_leastOf_3 : List UInt8 := dkwX1_leastOf_3 ++ dktX1_leastOf_4
def dkwX1_leastOf_2 : List UInt8 := [184, 0, 150, 153, 0, 37, 29, 42, 180, 0, 39, 180, 0, 119, 21, 4, 182, 0, 122, 192, 0, 126, 44]
abbrev dktX1_leastOf_2 : List UInt8 := dkwX1_leastOf_2 ++ dktX1_leastOf_3
def dkwX1_leastOf_1 : List UInt8 := [162, 0, 68, 42, 180, 0, 39, 180, 0, 114, 27, 182, 0, 122, 192, 0, 128, 180, 0, 148, 21, 4]
abbrev dktX1_leastOf_1 : List UInt8 := dkwX1_leastOf_1 ++ dktX1_leastOf_2
def dkwX1_leastOf_0 : List UInt8 := [42, 182, 0, 221, 77, 4, 62, 3, 54, 4, 21, 4, 42, 180, 0, 39, 180, 0, 119, 182, 0, 118]
abbrev dktX1_leastOf_0 : List UInt8 := dkwX1_leastOf_0 ++ dktX1_leastOf_1
theorem dksX1_leastOf_0 : cX1_leastOf.data.toList.drop 0 = dktX1_leastOf_0 := by decide +kernel
theorem dksX1_leastOf_1 : cX1_leastOf.data.toList.drop 22 = dktX1_leastOf_1 := dk_seg dksX1_leastOf_0 22 rfl rfl
theorem dksX1_leastOf_2 : cX1_leastOf.data.toList.drop 44 = dktX1_leastOf_2 := dk_seg dksX1_leastOf_1 22 rfl rfl
theorem dksX1_leastOf_3 : cX1_leastOf.data.toList.drop 67 = dktX1_leastOf_3 := dk_seg dksX1_leastOf_2 23 rfl rfl
theorem dksX1_leastOf_4 : cX1_leastOf.data.toList.drop 91 = dktX1_leastOf_4 := dk_seg dksX1_leastOf_3 24 rfl rfl
theorem dX1_leastOf_0 : decode cX1_leastOf 0 = .ok (.aload_n 0, 1) := dk_42 (dk_at dksX1_leastOf_0 0 rfl rfl)
theorem dX1_leastOf_1 : decode cX1_leastOf 1 = .ok (.invokevirtual 221, 3) := dk_182 0 221 (dk_at dksX1_leastOf_0 1 rfl rfl)
theorem dX1_leastOf_4 : decode cX1_leastOf 4 = .ok (.astore_n 2, 1) := dk_77 (dk_at dksX1_leastOf_0 4 rfl rfl)
theorem dX1_leastOf_5 : decode cX1_leastOf 5 = .ok (.iconst 1, 1) := dk_4 (dk_at dksX1_leastOf_0 5 rfl rfl)
theorem dX1_leastOf_6 : decode cX1_leastOf 6 = .ok (.istore_n 3, 1) := dk_62 (dk_at dksX1_leastOf_0 6 rfl rfl)
theorem dX1_leastOf_7 : decode cX1_leastOf 7 = .ok (.iconst 0, 1) := dk_3 (dk_at dksX1_leastOf_0 7 rfl rfl)
theorem dX1_leastOf_8 : decode cX1_leastOf 8 = .ok (.istore 4, 2) := dk_54 4 (dk_at dksX1_leastOf_0 8 rfl rfl)
theorem dX1_leastOf_10 : decode cX1_leastOf 10 = .ok (.iload 4, 2) := dk_21 4 (dk_at dksX1_leastOf_0 10 rfl rfl)
theorem dX1_leastOf_12 : decode cX1_leastOf 12 = .ok (.aload_n 0, 1) := dk_42 (dk_at dksX1_leastOf_0 12 rfl rfl)
theorem dX1_leastOf_13 : decode cX1_leastOf 13 = .ok (.getfield 39, 3) := dk_180 0 39 (dk_at dksX1_leastOf_0 13 rfl rfl)
theorem dX1_leastOf_16 : decode cX1_leastOf 16 = .ok (.getfield 119, 3) := dk_180 0 119 (dk_at dksX1_leastOf_0 16 rfl rfl)
theorem dX1_leastOf_19 : decode cX1_leastOf 19 = .ok (.invokevirtual 118, 3) := dk_182 0 118 (dk_at dksX1_leastOf_0 19 rfl rfl)
theorem dX1_leastOf_22 : decode cX1_leastOf 22 = .ok (.if_icmp .ge 68, 3) := dk_162 0 68 (dk_at dksX1_leastOf_1 0 rfl rfl)
theorem dX1_leastOf_25 : decode cX1_leastOf 25 = .ok (.aload_n 0, 1) := dk_42 (dk_at dksX1_leastOf_1 3 rfl rfl)
theorem dX1_leastOf_26 : decode cX1_leastOf 26 = .ok (.getfield 39, 3) := dk_180 0 39 (dk_at dksX1_leastOf_1 4 rfl rfl)
theorem dX1_leastOf_29 : decode cX1_leastOf 29 = .ok (.getfield 114, 3) := dk_180 0 114 (dk_at dksX1_leastOf_1 7 rfl rfl)
theorem dX1_leastOf_32 : decode cX1_leastOf 32 = .ok (.iload_n 1, 1) := dk_27 (dk_at dksX1_leastOf_1 10 rfl rfl)
theorem dX1_leastOf_33 : decode cX1_leastOf 33 = .ok (.invokevirtual 122, 3) := dk_182 0 122 (dk_at dksX1_leastOf_1 11 rfl rfl)
theorem dX1_leastOf_36 : decode cX1_leastOf 36 = .ok (.checkcast 128, 3) := dk_192 0 128 (dk_at dksX1_leastOf_1 14 rfl rfl)
theorem dX1_leastOf_39 : decode cX1_leastOf 39 = .ok (.getfield 148, 3) := dk_180 0 148 (dk_at dksX1_leastOf_1 17 rfl rfl)
theorem dX1_leastOf_42 : decode cX1_leastOf 42 = .ok (.iload 4, 2) := dk_21 4 (dk_at dksX1_leastOf_1 20 rfl rfl)
theorem dX1_leastOf_44 : decode cX1_leastOf 44 = .ok (.invokestatic 150, 3) := dk_184 0 150 (dk_at dksX1_leastOf_2 0 rfl rfl)
theorem dX1_leastOf_47 : decode cX1_leastOf 47 = .ok (.ifCond .eq 37, 3) := dk_153 0 37 (dk_at dksX1_leastOf_2 3 rfl rfl)
theorem dX1_leastOf_50 : decode cX1_leastOf 50 = .ok (.iload_n 3, 1) := dk_29 (dk_at dksX1_leastOf_2 6 rfl rfl)
theorem dX1_leastOf_51 : decode cX1_leastOf 51 = .ok (.aload_n 0, 1) := dk_42 (dk_at dksX1_leastOf_2 7 rfl rfl)
theorem dX1_leastOf_52 : decode cX1_leastOf 52 = .ok (.getfield 39, 3) := dk_180 0 39 (dk_at dksX1_leastOf_2 8 rfl rfl)
theorem dX1_leastOf_55 : decode cX1_leastOf 55 = .ok (.getfield 119, 3) := dk_180 0 119 (dk_at dksX1_leastOf_2 11 rfl rfl)
theorem dX1_leastOf_58 : decode cX1_leastOf 58 = .ok (.iload 4, 2) := dk_21 4 (dk_at dksX1_leastOf_2 14 rfl rfl)
theorem dX1_leastOf_60 : decode cX1_leastOf 60 = .ok (.invokevirtual 122, 3) := dk_182 0 122 (dk_at dksX1_leastOf_2 16 rfl rfl)
theorem dX1_leastOf_63 : decode cX1_leastOf 63 = .ok (.checkcast 126, 3) := dk_192 0 126 (dk_at dksX1_leastOf_2 19 rfl rfl)
theorem dX1_leastOf_66 : decode cX1_leastOf 66 = .ok (.aload_n 2, 1) := dk_44 (dk_at dksX1_leastOf_2 22 rfl rfl)
theorem dX1_leastOf_67 : decode cX1_leastOf 67 = .ok (.getfield 228, 3) := dk_180 0 228 (dk_at dksX1_leastOf_3 0 rfl rfl)
theorem dX1_leastOf_70 : decode cX1_leastOf 70 = .ok (.iconst 4, 1) := dk_7 (dk_at dksX1_leastOf_3 3 rfl rfl)
theorem dX1_leastOf_71 : decode cX1_leastOf 71 = .ok (.iload_n 1, 1) := dk_27 (dk_at dksX1_leastOf_3 4 rfl rfl)
theorem dX1_leastOf_72 : decode cX1_leastOf 72 = .ok (.imul, 1) := dk_104 (dk_at dksX1_leastOf_3 5 rfl rfl)
theorem dX1_leastOf_73 : decode cX1_leastOf 73 = .ok (.iload 4, 2) := dk_21 4 (dk_at dksX1_leastOf_3 6 rfl rfl)
theorem dX1_leastOf_75 : decode cX1_leastOf 75 = .ok (.iadd, 1) := dk_96 (dk_at dksX1_leastOf_3 8 rfl rfl)
theorem dX1_leastOf_76 : decode cX1_leastOf 76 = .ok (.iaload, 1) := dk_46 (dk_at dksX1_leastOf_3 9 rfl rfl)
theorem dX1_leastOf_77 : decode cX1_leastOf 77 = .ok (.invokevirtual 193, 3) := dk_182 0 193 (dk_at dksX1_leastOf_3 10 rfl rfl)
theorem dX1_leastOf_80 : decode cX1_leastOf 80 = .ok (.invokestatic 236, 3) := dk_184 0 236 (dk_at dksX1_leastOf_3 13 rfl rfl)
theorem dX1_leastOf_83 : decode cX1_leastOf 83 = .ok (.istore_n 3, 1) := dk_62 (dk_at dksX1_leastOf_3 16 rfl rfl)
theorem dX1_leastOf_84 : decode cX1_leastOf 84 = .ok (.iinc 4 1, 3) := dk_132 4 1 (dk_at dksX1_leastOf_3 17 rfl rfl)
theorem dX1_leastOf_87 : decode cX1_leastOf 87 = .ok (.goto (-77), 3) := dk_167 255 179 (dk_at dksX1_leastOf_3 20 rfl rfl)
theorem dX1_leastOf_90 : decode cX1_leastOf 90 = .ok (.iload_n 3, 1) := dk_29 (dk_at dksX1_leastOf_3 23 rfl rfl)
theorem dX1_leastOf_91 : decode cX1_leastOf 91 = .ok (.ireturn, 1) := dk_172 (dk_at dksX1_leastOf_4 0 rfl rfl)
abbrev cX1_position : ByteArray := prog_1_method_36_code
def yX1_position : MethodName := ⟨RX1, "position", "(II)I"⟩
def dkwX1_position_0 : List UInt8 := [42, 27, 182, 0, 144, 78, 28, 184, 0, 243, 42, 182, 0, 246, 180, 0, 249, 27, 50, 28, 46, 172]
abbrev dktX1_position_0 : List UInt8 := dkwX1_position_0 ++ []
theorem dksX1_position_0 : cX1_position.data.toList.drop 0 = dktX1_position_0 := by decide +kernel
theorem dX1_position_0 : decode cX1_position 0 = .ok (.aload_n 0, 1) := dk_42 (dk_at dksX1_position_0 0 rfl rfl)
theorem dX1_position_1 : decode cX1_position 1 = .ok (.iload_n 1, 1) := dk_27 (dk_at dksX1_position_0 1 rfl rfl)
theorem dX1_position_2 : decode cX1_position 2 = .ok (.invokevirtual 144, 3) := dk_182 0 144 (dk_at dksX1_position_0 2 rfl rfl)
theorem dX1_position_5 : decode cX1_position 5 = .ok (.astore_n 3, 1) := dk_78 (dk_at dksX1_position_0 5 rfl rfl)
theorem dX1_position_6 : decode cX1_position 6 = .ok (.iload_n 2, 1) := dk_28 (dk_at dksX1_position_0 6 rfl rfl)
theorem dX1_position_7 : decode cX1_position 7 = .ok (.invokestatic 243, 3) := dk_184 0 243 (dk_at dksX1_position_0 7 rfl rfl)
theorem dX1_position_10 : decode cX1_position 10 = .ok (.aload_n 0, 1) := dk_42 (dk_at dksX1_position_0 10 rfl rfl)
theorem dX1_position_11 : decode cX1_position 11 = .ok (.invokevirtual 246, 3) := dk_182 0 246 (dk_at dksX1_position_0 11 rfl rfl)
theorem dX1_position_14 : decode cX1_position 14 = .ok (.getfield 249, 3) := dk_180 0 249 (dk_at dksX1_position_0 14 rfl rfl)
theorem dX1_position_17 : decode cX1_position 17 = .ok (.iload_n 1, 1) := dk_27 (dk_at dksX1_position_0 17 rfl rfl)
theorem dX1_position_18 : decode cX1_position 18 = .ok (.aaload, 1) := dk_50 (dk_at dksX1_position_0 18 rfl rfl)
theorem dX1_position_19 : decode cX1_position 19 = .ok (.iload_n 2, 1) := dk_28 (dk_at dksX1_position_0 19 rfl rfl)
theorem dX1_position_20 : decode cX1_position 20 = .ok (.iaload, 1) := dk_46 (dk_at dksX1_position_0 20 rfl rfl)
theorem dX1_position_21 : decode cX1_position 21 = .ok (.ireturn, 1) := dk_172 (dk_at dksX1_position_0 21 rfl rfl)
abbrev cX1_requireFrame : ByteArray := prog_1_method_7_code
def yX1_requireFrame : MethodName := ⟨RX1, "requireFrame", "(I)V"⟩
def dkwX1_requireFrame_0 : List UInt8 := [26, 17, 3, 232, 184, 0, 22, 177]
abbrev dktX1_requireFrame_0 : List UInt8 := dkwX1_requireFrame_0 ++ []
theorem dksX1_requireFrame_0 : cX1_requireFrame.data.toList.drop 0 = dktX1_requireFrame_0 := by decide +kernel
theorem dX1_requireFrame_0 : decode cX1_requireFrame 0 = .ok (.iload_n 0, 1) := dk_26 (dk_at dksX1_requireFrame_0 0 rfl rfl)
theorem dX1_requireFrame_1 : decode cX1_requireFrame 1 = .ok (.sipush 1000, 3) := dk_17 3 232 (dk_at dksX1_requireFrame_0 1 rfl rfl)
theorem dX1_requireFrame_4 : decode cX1_requireFrame 4 = .ok (.invokestatic 22, 3) := dk_184 0 22 (dk_at dksX1_requireFrame_0 4 rfl rfl)
theorem dX1_requireFrame_7 : decode cX1_requireFrame 7 = .ok (.return_, 1) := dk_177 (dk_at dksX1_requireFrame_0 7 rfl rfl)
abbrev cX1_speed : ByteArray := prog_1_method_37_code
def yX1_speed : MethodName := ⟨RX1, "speed", "(II)I"⟩
def dkwX1_speed_0 : List UInt8 := [42, 27, 182, 0, 144, 78, 28, 184, 0, 243, 42, 182, 0, 246, 27, 28, 182, 0, 253, 172]
abbrev dktX1_speed_0 : List UInt8 := dkwX1_speed_0 ++ []
theorem dksX1_speed_0 : cX1_speed.data.toList.drop 0 = dktX1_speed_0 := by decide +kernel
theorem dX1_speed_0 : decode cX1_speed 0 = .ok (.aload_n 0, 1) := dk_42 (dk_at dksX1_speed_0 0 rfl rfl)
theorem dX1_speed_1 : decode cX1_speed 1 = .ok (.iload_n 1, 1) := dk_27 (dk_at dksX1_speed_0 1 rfl rfl)
theorem dX1_speed_2 : decode cX1_speed 2 = .ok (.invokevirtual 144, 3) := dk_182 0 144 (dk_at dksX1_speed_0 2 rfl rfl)
theorem dX1_speed_5 : decode cX1_speed 5 = .ok (.astore_n 3, 1) := dk_78 (dk_at dksX1_speed_0 5 rfl rfl)
theorem dX1_speed_6 : decode cX1_speed 6 = .ok (.iload_n 2, 1) := dk_28 (dk_at dksX1_speed_0 6 rfl rfl)
theorem dX1_speed_7 : decode cX1_speed 7 = .ok (.invokestatic 243, 3) := dk_184 0 243 (dk_at dksX1_speed_0 7 rfl rfl)
theorem dX1_speed_10 : decode cX1_speed 10 = .ok (.aload_n 0, 1) := dk_42 (dk_at dksX1_speed_0 10 rfl rfl)
theorem dX1_speed_11 : decode cX1_speed 11 = .ok (.invokevirtual 246, 3) := dk_182 0 246 (dk_at dksX1_speed_0 11 rfl rfl)
theorem dX1_speed_14 : decode cX1_speed 14 = .ok (.iload_n 1, 1) := dk_27 (dk_at dksX1_speed_0 14 rfl rfl)
theorem dX1_speed_15 : decode cX1_speed 15 = .ok (.iload_n 2, 1) := dk_28 (dk_at dksX1_speed_0 15 rfl rfl)
theorem dX1_speed_16 : decode cX1_speed 16 = .ok (.invokevirtual 253, 3) := dk_182 0 253 (dk_at dksX1_speed_0 16 rfl rfl)
theorem dX1_speed_19 : decode cX1_speed 19 = .ok (.ireturn, 1) := dk_172 (dk_at dksX1_speed_0 19 rfl rfl)
abbrev cX1_moving : ByteArray := prog_1_method_38_code
def yX1_moving : MethodName := ⟨RX1, "moving", "(I)I"⟩
def dkwX1_moving_0 : List UInt8 := [27, 184, 0, 243, 42, 182, 0, 246, 27, 182, 0, 255, 172]
abbrev dktX1_moving_0 : List UInt8 := dkwX1_moving_0 ++ []
theorem dksX1_moving_0 : cX1_moving.data.toList.drop 0 = dktX1_moving_0 := by decide +kernel
theorem dX1_moving_0 : decode cX1_moving 0 = .ok (.iload_n 1, 1) := dk_27 (dk_at dksX1_moving_0 0 rfl rfl)
theorem dX1_moving_1 : decode cX1_moving 1 = .ok (.invokestatic 243, 3) := dk_184 0 243 (dk_at dksX1_moving_0 1 rfl rfl)
theorem dX1_moving_4 : decode cX1_moving 4 = .ok (.aload_n 0, 1) := dk_42 (dk_at dksX1_moving_0 4 rfl rfl)
theorem dX1_moving_5 : decode cX1_moving 5 = .ok (.invokevirtual 246, 3) := dk_182 0 246 (dk_at dksX1_moving_0 5 rfl rfl)
theorem dX1_moving_8 : decode cX1_moving 8 = .ok (.iload_n 1, 1) := dk_27 (dk_at dksX1_moving_0 8 rfl rfl)
theorem dX1_moving_9 : decode cX1_moving 9 = .ok (.invokevirtual 255, 3) := dk_182 0 255 (dk_at dksX1_moving_0 9 rfl rfl)
theorem dX1_moving_12 : decode cX1_moving 12 = .ok (.ireturn, 1) := dk_172 (dk_at dksX1_moving_0 12 rfl rfl)
abbrev cX1_travelled : ByteArray := prog_1_method_42_code
def yX1_travelled : MethodName := ⟨RX1, "travelled", "(I)I"⟩
def dkwX1_travelled_0 : List UInt8 := [42, 27, 182, 0, 144, 77, 42, 182, 0, 246, 27, 182, 1, 6, 172]
abbrev dktX1_travelled_0 : List UInt8 := dkwX1_travelled_0 ++ []
theorem dksX1_travelled_0 : cX1_travelled.data.toList.drop 0 = dktX1_travelled_0 := by decide +kernel
theorem dX1_travelled_0 : decode cX1_travelled 0 = .ok (.aload_n 0, 1) := dk_42 (dk_at dksX1_travelled_0 0 rfl rfl)
theorem dX1_travelled_1 : decode cX1_travelled 1 = .ok (.iload_n 1, 1) := dk_27 (dk_at dksX1_travelled_0 1 rfl rfl)
theorem dX1_travelled_2 : decode cX1_travelled 2 = .ok (.invokevirtual 144, 3) := dk_182 0 144 (dk_at dksX1_travelled_0 2 rfl rfl)
theorem dX1_travelled_5 : decode cX1_travelled 5 = .ok (.astore_n 2, 1) := dk_77 (dk_at dksX1_travelled_0 5 rfl rfl)
theorem dX1_travelled_6 : decode cX1_travelled 6 = .ok (.aload_n 0, 1) := dk_42 (dk_at dksX1_travelled_0 6 rfl rfl)
theorem dX1_travelled_7 : decode cX1_travelled 7 = .ok (.invokevirtual 246, 3) := dk_182 0 246 (dk_at dksX1_travelled_0 7 rfl rfl)
theorem dX1_travelled_10 : decode cX1_travelled 10 = .ok (.iload_n 1, 1) := dk_27 (dk_at dksX1_travelled_0 10 rfl rfl)
theorem dX1_travelled_11 : decode cX1_travelled 11 = .ok (.invokevirtual 262, 3) := dk_182 1 6 (dk_at dksX1_travelled_0 11 rfl rfl)
theorem dX1_travelled_14 : decode cX1_travelled 14 = .ok (.ireturn, 1) := dk_172 (dk_at dksX1_travelled_0 14 rfl rfl)
abbrev cX1_fastest : ByteArray := prog_1_method_43_code
def yX1_fastest : MethodName := ⟨RX1, "fastest", "(I)I"⟩
def dkwX1_fastest_0 : List UInt8 := [42, 27, 182, 0, 144, 77, 42, 182, 0, 246, 27, 187, 1, 9, 89, 42, 183, 1, 11, 182, 1, 14, 172]
abbrev dktX1_fastest_0 : List UInt8 := dkwX1_fastest_0 ++ []
theorem dksX1_fastest_0 : cX1_fastest.data.toList.drop 0 = dktX1_fastest_0 := by decide +kernel
theorem dX1_fastest_0 : decode cX1_fastest 0 = .ok (.aload_n 0, 1) := dk_42 (dk_at dksX1_fastest_0 0 rfl rfl)
theorem dX1_fastest_1 : decode cX1_fastest 1 = .ok (.iload_n 1, 1) := dk_27 (dk_at dksX1_fastest_0 1 rfl rfl)
theorem dX1_fastest_2 : decode cX1_fastest 2 = .ok (.invokevirtual 144, 3) := dk_182 0 144 (dk_at dksX1_fastest_0 2 rfl rfl)
theorem dX1_fastest_5 : decode cX1_fastest 5 = .ok (.astore_n 2, 1) := dk_77 (dk_at dksX1_fastest_0 5 rfl rfl)
theorem dX1_fastest_6 : decode cX1_fastest 6 = .ok (.aload_n 0, 1) := dk_42 (dk_at dksX1_fastest_0 6 rfl rfl)
theorem dX1_fastest_7 : decode cX1_fastest 7 = .ok (.invokevirtual 246, 3) := dk_182 0 246 (dk_at dksX1_fastest_0 7 rfl rfl)
theorem dX1_fastest_10 : decode cX1_fastest 10 = .ok (.iload_n 1, 1) := dk_27 (dk_at dksX1_fastest_0 10 rfl rfl)
theorem dX1_fastest_11 : decode cX1_fastest 11 = .ok (.new 265, 3) := dk_187 1 9 (dk_at dksX1_fastest_0 11 rfl rfl)
theorem dX1_fastest_14 : decode cX1_fastest 14 = .ok (.dup, 1) := dk_89 (dk_at dksX1_fastest_0 14 rfl rfl)
theorem dX1_fastest_15 : decode cX1_fastest 15 = .ok (.aload_n 0, 1) := dk_42 (dk_at dksX1_fastest_0 15 rfl rfl)
theorem dX1_fastest_16 : decode cX1_fastest 16 = .ok (.invokespecial 267, 3) := dk_183 1 11 (dk_at dksX1_fastest_0 16 rfl rfl)
theorem dX1_fastest_19 : decode cX1_fastest 19 = .ok (.invokevirtual 270, 3) := dk_182 1 14 (dk_at dksX1_fastest_0 19 rfl rfl)
theorem dX1_fastest_22 : decode cX1_fastest 22 = .ok (.ireturn, 1) := dk_172 (dk_at dksX1_fastest_0 22 rfl rfl)
abbrev cX1_meanSpeed : ByteArray := prog_1_method_44_code
def yX1_meanSpeed : MethodName := ⟨RX1, "meanSpeed", "(I)D"⟩
def dkwX1_meanSpeed_1 : List UInt8 := [54, 4, 21, 4, 154, 0, 7, 14, 167, 0, 13, 45, 27, 182, 1, 6, 135, 21, 4, 135, 111, 175]
abbrev dktX1_meanSpeed_1 : List UInt8 := dkwX1_meanSpeed_1 ++ []
def dkwX1_meanSpeed_0 : List UInt8 := [42, 27, 182, 0, 144, 77, 42, 182, 0, 246, 78, 45, 27, 187, 1, 18, 89, 42, 183, 1, 20, 182, 1, 14]
abbrev dktX1_meanSpeed_0 : List UInt8 := dkwX1_meanSpeed_0 ++ dktX1_meanSpeed_1
theorem dksX1_meanSpeed_0 : cX1_meanSpeed.data.toList.drop 0 = dktX1_meanSpeed_0 := by decide +kernel
theorem dksX1_meanSpeed_1 : cX1_meanSpeed.data.toList.drop 24 = dktX1_meanSpeed_1 := dk_seg dksX1_meanSpeed_0 24 rfl rfl
theorem dX1_meanSpeed_0 : decode cX1_meanSpeed 0 = .ok (.aload_n 0, 1) := dk_42 (dk_at dksX1_meanSpeed_0 0 rfl rfl)
theorem dX1_meanSpeed_1 : decode cX1_meanSpeed 1 = .ok (.iload_n 1, 1) := dk_27 (dk_at dksX1_meanSpeed_0 1 rfl rfl)
theorem dX1_meanSpeed_2 : decode cX1_meanSpeed 2 = .ok (.invokevirtual 144, 3) := dk_182 0 144 (dk_at dksX1_meanSpeed_0 2 rfl rfl)
theorem dX1_meanSpeed_5 : decode cX1_meanSpeed 5 = .ok (.astore_n 2, 1) := dk_77 (dk_at dksX1_meanSpeed_0 5 rfl rfl)
theorem dX1_meanSpeed_6 : decode cX1_meanSpeed 6 = .ok (.aload_n 0, 1) := dk_42 (dk_at dksX1_meanSpeed_0 6 rfl rfl)
theorem dX1_meanSpeed_7 : decode cX1_meanSpeed 7 = .ok (.invokevirtual 246, 3) := dk_182 0 246 (dk_at dksX1_meanSpeed_0 7 rfl rfl)
theorem dX1_meanSpeed_10 : decode cX1_meanSpeed 10 = .ok (.astore_n 3, 1) := dk_78 (dk_at dksX1_meanSpeed_0 10 rfl rfl)
theorem dX1_meanSpeed_11 : decode cX1_meanSpeed 11 = .ok (.aload_n 3, 1) := dk_45 (dk_at dksX1_meanSpeed_0 11 rfl rfl)
theorem dX1_meanSpeed_12 : decode cX1_meanSpeed 12 = .ok (.iload_n 1, 1) := dk_27 (dk_at dksX1_meanSpeed_0 12 rfl rfl)
theorem dX1_meanSpeed_13 : decode cX1_meanSpeed 13 = .ok (.new 274, 3) := dk_187 1 18 (dk_at dksX1_meanSpeed_0 13 rfl rfl)
theorem dX1_meanSpeed_16 : decode cX1_meanSpeed 16 = .ok (.dup, 1) := dk_89 (dk_at dksX1_meanSpeed_0 16 rfl rfl)
theorem dX1_meanSpeed_17 : decode cX1_meanSpeed 17 = .ok (.aload_n 0, 1) := dk_42 (dk_at dksX1_meanSpeed_0 17 rfl rfl)
theorem dX1_meanSpeed_18 : decode cX1_meanSpeed 18 = .ok (.invokespecial 276, 3) := dk_183 1 20 (dk_at dksX1_meanSpeed_0 18 rfl rfl)
theorem dX1_meanSpeed_21 : decode cX1_meanSpeed 21 = .ok (.invokevirtual 270, 3) := dk_182 1 14 (dk_at dksX1_meanSpeed_0 21 rfl rfl)
theorem dX1_meanSpeed_24 : decode cX1_meanSpeed 24 = .ok (.istore 4, 2) := dk_54 4 (dk_at dksX1_meanSpeed_1 0 rfl rfl)
theorem dX1_meanSpeed_26 : decode cX1_meanSpeed 26 = .ok (.iload 4, 2) := dk_21 4 (dk_at dksX1_meanSpeed_1 2 rfl rfl)
theorem dX1_meanSpeed_28 : decode cX1_meanSpeed 28 = .ok (.ifCond .ne 7, 3) := dk_154 0 7 (dk_at dksX1_meanSpeed_1 4 rfl rfl)
theorem dX1_meanSpeed_31 : decode cX1_meanSpeed 31 = .ok (.dconst 0, 1) := dk_14 (dk_at dksX1_meanSpeed_1 7 rfl rfl)
theorem dX1_meanSpeed_32 : decode cX1_meanSpeed 32 = .ok (.goto 13, 3) := dk_167 0 13 (dk_at dksX1_meanSpeed_1 8 rfl rfl)
theorem dX1_meanSpeed_35 : decode cX1_meanSpeed 35 = .ok (.aload_n 3, 1) := dk_45 (dk_at dksX1_meanSpeed_1 11 rfl rfl)
theorem dX1_meanSpeed_36 : decode cX1_meanSpeed 36 = .ok (.iload_n 1, 1) := dk_27 (dk_at dksX1_meanSpeed_1 12 rfl rfl)
theorem dX1_meanSpeed_37 : decode cX1_meanSpeed 37 = .ok (.invokevirtual 262, 3) := dk_182 1 6 (dk_at dksX1_meanSpeed_1 13 rfl rfl)
theorem dX1_meanSpeed_40 : decode cX1_meanSpeed 40 = .ok (.i2d, 1) := dk_135 (dk_at dksX1_meanSpeed_1 16 rfl rfl)
theorem dX1_meanSpeed_41 : decode cX1_meanSpeed 41 = .ok (.iload 4, 2) := dk_21 4 (dk_at dksX1_meanSpeed_1 17 rfl rfl)
theorem dX1_meanSpeed_43 : decode cX1_meanSpeed 43 = .ok (.i2d, 1) := dk_135 (dk_at dksX1_meanSpeed_1 19 rfl rfl)
theorem dX1_meanSpeed_44 : decode cX1_meanSpeed 44 = .ok (.ddiv, 1) := dk_111 (dk_at dksX1_meanSpeed_1 20 rfl rfl)
theorem dX1_meanSpeed_45 : decode cX1_meanSpeed 45 = .ok (.dreturn, 1) := dk_175 (dk_at dksX1_meanSpeed_1 21 rfl rfl)
abbrev cX1_walls : ByteArray := prog_1_method_45_code
def yX1_walls : MethodName := ⟨RX1, "walls", "(I)I"⟩
def dkwX1_walls_0 : List UInt8 := [27, 184, 0, 243, 42, 182, 0, 246, 27, 182, 1, 21, 172]
abbrev dktX1_walls_0 : List UInt8 := dkwX1_walls_0 ++ []
theorem dksX1_walls_0 : cX1_walls.data.toList.drop 0 = dktX1_walls_0 := by decide +kernel
theorem dX1_walls_0 : decode cX1_walls 0 = .ok (.iload_n 1, 1) := dk_27 (dk_at dksX1_walls_0 0 rfl rfl)
theorem dX1_walls_1 : decode cX1_walls 1 = .ok (.invokestatic 243, 3) := dk_184 0 243 (dk_at dksX1_walls_0 1 rfl rfl)
theorem dX1_walls_4 : decode cX1_walls 4 = .ok (.aload_n 0, 1) := dk_42 (dk_at dksX1_walls_0 4 rfl rfl)
theorem dX1_walls_5 : decode cX1_walls 5 = .ok (.invokevirtual 246, 3) := dk_182 0 246 (dk_at dksX1_walls_0 5 rfl rfl)
theorem dX1_walls_8 : decode cX1_walls 8 = .ok (.iload_n 1, 1) := dk_27 (dk_at dksX1_walls_0 8 rfl rfl)
theorem dX1_walls_9 : decode cX1_walls 9 = .ok (.invokevirtual 277, 3) := dk_182 1 21 (dk_at dksX1_walls_0 9 rfl rfl)
theorem dX1_walls_12 : decode cX1_walls 12 = .ok (.ireturn, 1) := dk_172 (dk_at dksX1_walls_0 12 rfl rfl)
abbrev cX1_framesInside : ByteArray := prog_1_method_47_code
def yX1_framesInside : MethodName := ⟨RX1, "framesInside", "(I)I"⟩
def dkwX1_framesInside_2 : List UInt8 := [132, 5, 1, 167, 255, 225, 21, 4, 172]
abbrev dktX1_framesInside_2 : List UInt8 := dkwX1_framesInside_2 ++ []
def dkwX1_framesInside_1 : List UInt8 := [163, 0, 29, 21, 4, 45, 27, 21, 5, 182, 1, 27, 153, 0, 7, 4, 167, 0, 4, 3, 96, 54, 4]
abbrev dktX1_framesInside_1 : List UInt8 := dkwX1_framesInside_1 ++ dktX1_framesInside_2
def dkwX1_framesInside_0 : List UInt8 := [42, 27, 182, 1, 23, 77, 42, 182, 0, 246, 78, 3, 54, 4, 3, 54, 5, 21, 5, 17, 3, 231]
abbrev dktX1_framesInside_0 : List UInt8 := dkwX1_framesInside_0 ++ dktX1_framesInside_1
theorem dksX1_framesInside_0 : cX1_framesInside.data.toList.drop 0 = dktX1_framesInside_0 := by decide +kernel
theorem dksX1_framesInside_1 : cX1_framesInside.data.toList.drop 22 = dktX1_framesInside_1 := dk_seg dksX1_framesInside_0 22 rfl rfl
theorem dksX1_framesInside_2 : cX1_framesInside.data.toList.drop 45 = dktX1_framesInside_2 := dk_seg dksX1_framesInside_1 23 rfl rfl
theorem dX1_framesInside_0 : decode cX1_framesInside 0 = .ok (.aload_n 0, 1) := dk_42 (dk_at dksX1_framesInside_0 0 rfl rfl)
theorem dX1_framesInside_1 : decode cX1_framesInside 1 = .ok (.iload_n 1, 1) := dk_27 (dk_at dksX1_framesInside_0 1 rfl rfl)
theorem dX1_framesInside_2 : decode cX1_framesInside 2 = .ok (.invokevirtual 279, 3) := dk_182 1 23 (dk_at dksX1_framesInside_0 2 rfl rfl)
theorem dX1_framesInside_5 : decode cX1_framesInside 5 = .ok (.astore_n 2, 1) := dk_77 (dk_at dksX1_framesInside_0 5 rfl rfl)
theorem dX1_framesInside_6 : decode cX1_framesInside 6 = .ok (.aload_n 0, 1) := dk_42 (dk_at dksX1_framesInside_0 6 rfl rfl)
theorem dX1_framesInside_7 : decode cX1_framesInside 7 = .ok (.invokevirtual 246, 3) := dk_182 0 246 (dk_at dksX1_framesInside_0 7 rfl rfl)
theorem dX1_framesInside_10 : decode cX1_framesInside 10 = .ok (.astore_n 3, 1) := dk_78 (dk_at dksX1_framesInside_0 10 rfl rfl)
theorem dX1_framesInside_11 : decode cX1_framesInside 11 = .ok (.iconst 0, 1) := dk_3 (dk_at dksX1_framesInside_0 11 rfl rfl)
theorem dX1_framesInside_12 : decode cX1_framesInside 12 = .ok (.istore 4, 2) := dk_54 4 (dk_at dksX1_framesInside_0 12 rfl rfl)
theorem dX1_framesInside_14 : decode cX1_framesInside 14 = .ok (.iconst 0, 1) := dk_3 (dk_at dksX1_framesInside_0 14 rfl rfl)
theorem dX1_framesInside_15 : decode cX1_framesInside 15 = .ok (.istore 5, 2) := dk_54 5 (dk_at dksX1_framesInside_0 15 rfl rfl)
theorem dX1_framesInside_17 : decode cX1_framesInside 17 = .ok (.iload 5, 2) := dk_21 5 (dk_at dksX1_framesInside_0 17 rfl rfl)
theorem dX1_framesInside_19 : decode cX1_framesInside 19 = .ok (.sipush 999, 3) := dk_17 3 231 (dk_at dksX1_framesInside_0 19 rfl rfl)
theorem dX1_framesInside_22 : decode cX1_framesInside 22 = .ok (.if_icmp .gt 29, 3) := dk_163 0 29 (dk_at dksX1_framesInside_1 0 rfl rfl)
theorem dX1_framesInside_25 : decode cX1_framesInside 25 = .ok (.iload 4, 2) := dk_21 4 (dk_at dksX1_framesInside_1 3 rfl rfl)
theorem dX1_framesInside_27 : decode cX1_framesInside 27 = .ok (.aload_n 3, 1) := dk_45 (dk_at dksX1_framesInside_1 5 rfl rfl)
theorem dX1_framesInside_28 : decode cX1_framesInside 28 = .ok (.iload_n 1, 1) := dk_27 (dk_at dksX1_framesInside_1 6 rfl rfl)
theorem dX1_framesInside_29 : decode cX1_framesInside 29 = .ok (.iload 5, 2) := dk_21 5 (dk_at dksX1_framesInside_1 7 rfl rfl)
theorem dX1_framesInside_31 : decode cX1_framesInside 31 = .ok (.invokevirtual 283, 3) := dk_182 1 27 (dk_at dksX1_framesInside_1 9 rfl rfl)
theorem dX1_framesInside_34 : decode cX1_framesInside 34 = .ok (.ifCond .eq 7, 3) := dk_153 0 7 (dk_at dksX1_framesInside_1 12 rfl rfl)
theorem dX1_framesInside_37 : decode cX1_framesInside 37 = .ok (.iconst 1, 1) := dk_4 (dk_at dksX1_framesInside_1 15 rfl rfl)
theorem dX1_framesInside_38 : decode cX1_framesInside 38 = .ok (.goto 4, 3) := dk_167 0 4 (dk_at dksX1_framesInside_1 16 rfl rfl)
theorem dX1_framesInside_41 : decode cX1_framesInside 41 = .ok (.iconst 0, 1) := dk_3 (dk_at dksX1_framesInside_1 19 rfl rfl)
theorem dX1_framesInside_42 : decode cX1_framesInside 42 = .ok (.iadd, 1) := dk_96 (dk_at dksX1_framesInside_1 20 rfl rfl)
theorem dX1_framesInside_43 : decode cX1_framesInside 43 = .ok (.istore 4, 2) := dk_54 4 (dk_at dksX1_framesInside_1 21 rfl rfl)
theorem dX1_framesInside_45 : decode cX1_framesInside 45 = .ok (.iinc 5 1, 3) := dk_132 5 1 (dk_at dksX1_framesInside_2 0 rfl rfl)
theorem dX1_framesInside_48 : decode cX1_framesInside 48 = .ok (.goto (-31), 3) := dk_167 255 225 (dk_at dksX1_framesInside_2 3 rfl rfl)
theorem dX1_framesInside_51 : decode cX1_framesInside 51 = .ok (.iload 4, 2) := dk_21 4 (dk_at dksX1_framesInside_2 6 rfl rfl)
theorem dX1_framesInside_53 : decode cX1_framesInside 53 = .ok (.ireturn, 1) := dk_172 (dk_at dksX1_framesInside_2 8 rfl rfl)
abbrev cX1_wall : ByteArray := prog_1_method_17_code
def yX1_wall : MethodName := ⟨RX1, "wall", "(I)LCameraMoves$Wall;"⟩
def dkwX1_wall_1 : List UInt8 := [182, 0, 122, 192, 0, 138, 176]
abbrev dktX1_wall_1 : List UInt8 := dkwX1_wall_1 ++ []
def dkwX1_wall_0 : List UInt8 := [27, 42, 180, 0, 39, 180, 0, 135, 182, 0, 118, 184, 0, 22, 42, 180, 0, 39, 180, 0, 135, 27]
abbrev dktX1_wall_0 : List UInt8 := dkwX1_wall_0 ++ dktX1_wall_1
theorem dksX1_wall_0 : cX1_wall.data.toList.drop 0 = dktX1_wall_0 := by decide +kernel
theorem dksX1_wall_1 : cX1_wall.data.toList.drop 22 = dktX1_wall_1 := dk_seg dksX1_wall_0 22 rfl rfl
theorem dX1_wall_0 : decode cX1_wall 0 = .ok (.iload_n 1, 1) := dk_27 (dk_at dksX1_wall_0 0 rfl rfl)
theorem dX1_wall_1 : decode cX1_wall 1 = .ok (.aload_n 0, 1) := dk_42 (dk_at dksX1_wall_0 1 rfl rfl)
theorem dX1_wall_2 : decode cX1_wall 2 = .ok (.getfield 39, 3) := dk_180 0 39 (dk_at dksX1_wall_0 2 rfl rfl)
theorem dX1_wall_5 : decode cX1_wall 5 = .ok (.getfield 135, 3) := dk_180 0 135 (dk_at dksX1_wall_0 5 rfl rfl)
theorem dX1_wall_8 : decode cX1_wall 8 = .ok (.invokevirtual 118, 3) := dk_182 0 118 (dk_at dksX1_wall_0 8 rfl rfl)
theorem dX1_wall_11 : decode cX1_wall 11 = .ok (.invokestatic 22, 3) := dk_184 0 22 (dk_at dksX1_wall_0 11 rfl rfl)
theorem dX1_wall_14 : decode cX1_wall 14 = .ok (.aload_n 0, 1) := dk_42 (dk_at dksX1_wall_0 14 rfl rfl)
theorem dX1_wall_15 : decode cX1_wall 15 = .ok (.getfield 39, 3) := dk_180 0 39 (dk_at dksX1_wall_0 15 rfl rfl)
theorem dX1_wall_18 : decode cX1_wall 18 = .ok (.getfield 135, 3) := dk_180 0 135 (dk_at dksX1_wall_0 18 rfl rfl)
theorem dX1_wall_21 : decode cX1_wall 21 = .ok (.iload_n 1, 1) := dk_27 (dk_at dksX1_wall_0 21 rfl rfl)
theorem dX1_wall_22 : decode cX1_wall 22 = .ok (.invokevirtual 122, 3) := dk_182 0 122 (dk_at dksX1_wall_1 0 rfl rfl)
theorem dX1_wall_25 : decode cX1_wall 25 = .ok (.checkcast 138, 3) := dk_192 0 138 (dk_at dksX1_wall_1 3 rfl rfl)
theorem dX1_wall_28 : decode cX1_wall 28 = .ok (.areturn, 1) := dk_176 (dk_at dksX1_wall_1 6 rfl rfl)
abbrev cX1_shown : ByteArray := prog_1_method_48_code
def yX1_shown : MethodName := ⟨RX1, "shown", "(II)I"⟩
def dkwX1_shown_0 : List UInt8 := [42, 27, 182, 1, 30, 78, 28, 184, 0, 243, 45, 28, 182, 1, 34, 172]
abbrev dktX1_shown_0 : List UInt8 := dkwX1_shown_0 ++ []
theorem dksX1_shown_0 : cX1_shown.data.toList.drop 0 = dktX1_shown_0 := by decide +kernel
theorem dX1_shown_0 : decode cX1_shown 0 = .ok (.aload_n 0, 1) := dk_42 (dk_at dksX1_shown_0 0 rfl rfl)
theorem dX1_shown_1 : decode cX1_shown 1 = .ok (.iload_n 1, 1) := dk_27 (dk_at dksX1_shown_0 1 rfl rfl)
theorem dX1_shown_2 : decode cX1_shown 2 = .ok (.invokevirtual 286, 3) := dk_182 1 30 (dk_at dksX1_shown_0 2 rfl rfl)
theorem dX1_shown_5 : decode cX1_shown 5 = .ok (.astore_n 3, 1) := dk_78 (dk_at dksX1_shown_0 5 rfl rfl)
theorem dX1_shown_6 : decode cX1_shown 6 = .ok (.iload_n 2, 1) := dk_28 (dk_at dksX1_shown_0 6 rfl rfl)
theorem dX1_shown_7 : decode cX1_shown 7 = .ok (.invokestatic 243, 3) := dk_184 0 243 (dk_at dksX1_shown_0 7 rfl rfl)
theorem dX1_shown_10 : decode cX1_shown 10 = .ok (.aload_n 3, 1) := dk_45 (dk_at dksX1_shown_0 10 rfl rfl)
theorem dX1_shown_11 : decode cX1_shown 11 = .ok (.iload_n 2, 1) := dk_28 (dk_at dksX1_shown_0 11 rfl rfl)
theorem dX1_shown_12 : decode cX1_shown 12 = .ok (.invokevirtual 290, 3) := dk_182 1 34 (dk_at dksX1_shown_0 12 rfl rfl)
theorem dX1_shown_15 : decode cX1_shown 15 = .ok (.ireturn, 1) := dk_172 (dk_at dksX1_shown_0 15 rfl rfl)
abbrev cX1_pass : ByteArray := prog_1_method_16_code
def yX1_pass : MethodName := ⟨RX1, "pass", "(I)LCameraMoves$Pass;"⟩
def dkwX1_pass_1 : List UInt8 := [182, 0, 122, 192, 0, 133, 176]
abbrev dktX1_pass_1 : List UInt8 := dkwX1_pass_1 ++ []
def dkwX1_pass_0 : List UInt8 := [27, 42, 180, 0, 39, 180, 0, 130, 182, 0, 118, 184, 0, 22, 42, 180, 0, 39, 180, 0, 130, 27]
abbrev dktX1_pass_0 : List UInt8 := dkwX1_pass_0 ++ dktX1_pass_1
theorem dksX1_pass_0 : cX1_pass.data.toList.drop 0 = dktX1_pass_0 := by decide +kernel
theorem dksX1_pass_1 : cX1_pass.data.toList.drop 22 = dktX1_pass_1 := dk_seg dksX1_pass_0 22 rfl rfl
theorem dX1_pass_0 : decode cX1_pass 0 = .ok (.iload_n 1, 1) := dk_27 (dk_at dksX1_pass_0 0 rfl rfl)
theorem dX1_pass_1 : decode cX1_pass 1 = .ok (.aload_n 0, 1) := dk_42 (dk_at dksX1_pass_0 1 rfl rfl)
theorem dX1_pass_2 : decode cX1_pass 2 = .ok (.getfield 39, 3) := dk_180 0 39 (dk_at dksX1_pass_0 2 rfl rfl)
theorem dX1_pass_5 : decode cX1_pass 5 = .ok (.getfield 130, 3) := dk_180 0 130 (dk_at dksX1_pass_0 5 rfl rfl)
theorem dX1_pass_8 : decode cX1_pass 8 = .ok (.invokevirtual 118, 3) := dk_182 0 118 (dk_at dksX1_pass_0 8 rfl rfl)
theorem dX1_pass_11 : decode cX1_pass 11 = .ok (.invokestatic 22, 3) := dk_184 0 22 (dk_at dksX1_pass_0 11 rfl rfl)
theorem dX1_pass_14 : decode cX1_pass 14 = .ok (.aload_n 0, 1) := dk_42 (dk_at dksX1_pass_0 14 rfl rfl)
theorem dX1_pass_15 : decode cX1_pass 15 = .ok (.getfield 39, 3) := dk_180 0 39 (dk_at dksX1_pass_0 15 rfl rfl)
theorem dX1_pass_18 : decode cX1_pass 18 = .ok (.getfield 130, 3) := dk_180 0 130 (dk_at dksX1_pass_0 18 rfl rfl)
theorem dX1_pass_21 : decode cX1_pass 21 = .ok (.iload_n 1, 1) := dk_27 (dk_at dksX1_pass_0 21 rfl rfl)
theorem dX1_pass_22 : decode cX1_pass 22 = .ok (.invokevirtual 122, 3) := dk_182 0 122 (dk_at dksX1_pass_1 0 rfl rfl)
theorem dX1_pass_25 : decode cX1_pass 25 = .ok (.checkcast 133, 3) := dk_192 0 133 (dk_at dksX1_pass_1 3 rfl rfl)
theorem dX1_pass_28 : decode cX1_pass 28 = .ok (.areturn, 1) := dk_176 (dk_at dksX1_pass_1 6 rfl rfl)
abbrev cX1_passPosition : ByteArray := prog_1_method_49_code
def yX1_passPosition : MethodName := ⟨RX1, "passPosition", "(III)I"⟩
def dkwX1_passPosition_1 : List UInt8 := [180, 0, 249, 28, 50, 25, 4, 29, 182, 1, 34, 46, 172]
abbrev dktX1_passPosition_1 : List UInt8 := dkwX1_passPosition_1 ++ []
def dkwX1_passPosition_0 : List UInt8 := [42, 27, 182, 1, 30, 58, 4, 42, 28, 182, 0, 144, 58, 5, 29, 184, 0, 243, 42, 182, 0, 246]
abbrev dktX1_passPosition_0 : List UInt8 := dkwX1_passPosition_0 ++ dktX1_passPosition_1
theorem dksX1_passPosition_0 : cX1_passPosition.data.toList.drop 0 = dktX1_passPosition_0 := by decide +kernel
theorem dksX1_passPosition_1 : cX1_passPosition.data.toList.drop 22 = dktX1_passPosition_1 := dk_seg dksX1_passPosition_0 22 rfl rfl
theorem dX1_passPosition_0 : decode cX1_passPosition 0 = .ok (.aload_n 0, 1) := dk_42 (dk_at dksX1_passPosition_0 0 rfl rfl)
theorem dX1_passPosition_1 : decode cX1_passPosition 1 = .ok (.iload_n 1, 1) := dk_27 (dk_at dksX1_passPosition_0 1 rfl rfl)
theorem dX1_passPosition_2 : decode cX1_passPosition 2 = .ok (.invokevirtual 286, 3) := dk_182 1 30 (dk_at dksX1_passPosition_0 2 rfl rfl)
theorem dX1_passPosition_5 : decode cX1_passPosition 5 = .ok (.astore 4, 2) := dk_58 4 (dk_at dksX1_passPosition_0 5 rfl rfl)
theorem dX1_passPosition_7 : decode cX1_passPosition 7 = .ok (.aload_n 0, 1) := dk_42 (dk_at dksX1_passPosition_0 7 rfl rfl)
theorem dX1_passPosition_8 : decode cX1_passPosition 8 = .ok (.iload_n 2, 1) := dk_28 (dk_at dksX1_passPosition_0 8 rfl rfl)
theorem dX1_passPosition_9 : decode cX1_passPosition 9 = .ok (.invokevirtual 144, 3) := dk_182 0 144 (dk_at dksX1_passPosition_0 9 rfl rfl)
theorem dX1_passPosition_12 : decode cX1_passPosition 12 = .ok (.astore 5, 2) := dk_58 5 (dk_at dksX1_passPosition_0 12 rfl rfl)
theorem dX1_passPosition_14 : decode cX1_passPosition 14 = .ok (.iload_n 3, 1) := dk_29 (dk_at dksX1_passPosition_0 14 rfl rfl)
theorem dX1_passPosition_15 : decode cX1_passPosition 15 = .ok (.invokestatic 243, 3) := dk_184 0 243 (dk_at dksX1_passPosition_0 15 rfl rfl)
theorem dX1_passPosition_18 : decode cX1_passPosition 18 = .ok (.aload_n 0, 1) := dk_42 (dk_at dksX1_passPosition_0 18 rfl rfl)
theorem dX1_passPosition_19 : decode cX1_passPosition 19 = .ok (.invokevirtual 246, 3) := dk_182 0 246 (dk_at dksX1_passPosition_0 19 rfl rfl)
theorem dX1_passPosition_22 : decode cX1_passPosition 22 = .ok (.getfield 249, 3) := dk_180 0 249 (dk_at dksX1_passPosition_1 0 rfl rfl)
theorem dX1_passPosition_25 : decode cX1_passPosition 25 = .ok (.iload_n 2, 1) := dk_28 (dk_at dksX1_passPosition_1 3 rfl rfl)
theorem dX1_passPosition_26 : decode cX1_passPosition 26 = .ok (.aaload, 1) := dk_50 (dk_at dksX1_passPosition_1 4 rfl rfl)
theorem dX1_passPosition_27 : decode cX1_passPosition 27 = .ok (.aload 4, 2) := dk_25 4 (dk_at dksX1_passPosition_1 5 rfl rfl)
theorem dX1_passPosition_29 : decode cX1_passPosition 29 = .ok (.iload_n 3, 1) := dk_29 (dk_at dksX1_passPosition_1 7 rfl rfl)
theorem dX1_passPosition_30 : decode cX1_passPosition 30 = .ok (.invokevirtual 290, 3) := dk_182 1 34 (dk_at dksX1_passPosition_1 8 rfl rfl)
theorem dX1_passPosition_33 : decode cX1_passPosition 33 = .ok (.iaload, 1) := dk_46 (dk_at dksX1_passPosition_1 11 rfl rfl)
theorem dX1_passPosition_34 : decode cX1_passPosition 34 = .ok (.ireturn, 1) := dk_172 (dk_at dksX1_passPosition_1 12 rfl rfl)
abbrev cX1_fits : ByteArray := prog_1_method_50_code
def yX1_fits : MethodName := ⟨RX1, "fits", "(I)Z"⟩
def dkwX1_fits_0 : List UInt8 := [42, 27, 182, 1, 30, 77, 42, 182, 0, 246, 44, 182, 1, 37, 172]
abbrev dktX1_fits_0 : List UInt8 := dkwX1_fits_0 ++ []
theorem dksX1_fits_0 : cX1_fits.data.toList.drop 0 = dktX1_fits_0 := by decide +kernel
theorem dX1_fits_0 : decode cX1_fits 0 = .ok (.aload_n 0, 1) := dk_42 (dk_at dksX1_fits_0 0 rfl rfl)
theorem dX1_fits_1 : decode cX1_fits 1 = .ok (.iload_n 1, 1) := dk_27 (dk_at dksX1_fits_0 1 rfl rfl)
theorem dX1_fits_2 : decode cX1_fits 2 = .ok (.invokevirtual 286, 3) := dk_182 1 30 (dk_at dksX1_fits_0 2 rfl rfl)
theorem dX1_fits_5 : decode cX1_fits 5 = .ok (.astore_n 2, 1) := dk_77 (dk_at dksX1_fits_0 5 rfl rfl)
theorem dX1_fits_6 : decode cX1_fits 6 = .ok (.aload_n 0, 1) := dk_42 (dk_at dksX1_fits_0 6 rfl rfl)
theorem dX1_fits_7 : decode cX1_fits 7 = .ok (.invokevirtual 246, 3) := dk_182 0 246 (dk_at dksX1_fits_0 7 rfl rfl)
theorem dX1_fits_10 : decode cX1_fits 10 = .ok (.aload_n 2, 1) := dk_44 (dk_at dksX1_fits_0 10 rfl rfl)
theorem dX1_fits_11 : decode cX1_fits 11 = .ok (.invokevirtual 293, 3) := dk_182 1 37 (dk_at dksX1_fits_0 11 rfl rfl)
theorem dX1_fits_14 : decode cX1_fits 14 = .ok (.ireturn, 1) := dk_172 (dk_at dksX1_fits_0 14 rfl rfl)
abbrev cX1_matches : ByteArray := prog_1_method_51_code
def yX1_matches : MethodName := ⟨RX1, "matches", "(II)I"⟩
def dkwX1_matches_2 : List UInt8 := [153, 0, 7, 4, 167, 0, 4, 3, 96, 54, 6, 132, 7, 1, 167, 255, 222, 21, 6, 172]
abbrev dktX1_matches_2 : List UInt8 := dkwX1_matches_2 ++ []
def dkwX1_matches_1 : List UInt8 := [54, 7, 21, 7, 17, 3, 231, 163, 0, 32, 21, 6, 25, 5, 45, 25, 4, 21, 7, 182, 1, 41]
abbrev dktX1_matches_1 : List UInt8 := dkwX1_matches_1 ++ dktX1_matches_2
def dkwX1_matches_0 : List UInt8 := [42, 27, 182, 1, 30, 78, 42, 28, 182, 1, 30, 58, 4, 42, 182, 0, 246, 58, 5, 3, 54, 6, 3]
abbrev dktX1_matches_0 : List UInt8 := dkwX1_matches_0 ++ dktX1_matches_1
theorem dksX1_matches_0 : cX1_matches.data.toList.drop 0 = dktX1_matches_0 := by decide +kernel
theorem dksX1_matches_1 : cX1_matches.data.toList.drop 23 = dktX1_matches_1 := dk_seg dksX1_matches_0 23 rfl rfl
theorem dksX1_matches_2 : cX1_matches.data.toList.drop 45 = dktX1_matches_2 := dk_seg dksX1_matches_1 22 rfl rfl
theorem dX1_matches_0 : decode cX1_matches 0 = .ok (.aload_n 0, 1) := dk_42 (dk_at dksX1_matches_0 0 rfl rfl)
theorem dX1_matches_1 : decode cX1_matches 1 = .ok (.iload_n 1, 1) := dk_27 (dk_at dksX1_matches_0 1 rfl rfl)
theorem dX1_matches_2 : decode cX1_matches 2 = .ok (.invokevirtual 286, 3) := dk_182 1 30 (dk_at dksX1_matches_0 2 rfl rfl)
theorem dX1_matches_5 : decode cX1_matches 5 = .ok (.astore_n 3, 1) := dk_78 (dk_at dksX1_matches_0 5 rfl rfl)
theorem dX1_matches_6 : decode cX1_matches 6 = .ok (.aload_n 0, 1) := dk_42 (dk_at dksX1_matches_0 6 rfl rfl)
theorem dX1_matches_7 : decode cX1_matches 7 = .ok (.iload_n 2, 1) := dk_28 (dk_at dksX1_matches_0 7 rfl rfl)
theorem dX1_matches_8 : decode cX1_matches 8 = .ok (.invokevirtual 286, 3) := dk_182 1 30 (dk_at dksX1_matches_0 8 rfl rfl)
theorem dX1_matches_11 : decode cX1_matches 11 = .ok (.astore 4, 2) := dk_58 4 (dk_at dksX1_matches_0 11 rfl rfl)
theorem dX1_matches_13 : decode cX1_matches 13 = .ok (.aload_n 0, 1) := dk_42 (dk_at dksX1_matches_0 13 rfl rfl)
theorem dX1_matches_14 : decode cX1_matches 14 = .ok (.invokevirtual 246, 3) := dk_182 0 246 (dk_at dksX1_matches_0 14 rfl rfl)
theorem dX1_matches_17 : decode cX1_matches 17 = .ok (.astore 5, 2) := dk_58 5 (dk_at dksX1_matches_0 17 rfl rfl)
theorem dX1_matches_19 : decode cX1_matches 19 = .ok (.iconst 0, 1) := dk_3 (dk_at dksX1_matches_0 19 rfl rfl)
theorem dX1_matches_20 : decode cX1_matches 20 = .ok (.istore 6, 2) := dk_54 6 (dk_at dksX1_matches_0 20 rfl rfl)
theorem dX1_matches_22 : decode cX1_matches 22 = .ok (.iconst 0, 1) := dk_3 (dk_at dksX1_matches_0 22 rfl rfl)
theorem dX1_matches_23 : decode cX1_matches 23 = .ok (.istore 7, 2) := dk_54 7 (dk_at dksX1_matches_1 0 rfl rfl)
theorem dX1_matches_25 : decode cX1_matches 25 = .ok (.iload 7, 2) := dk_21 7 (dk_at dksX1_matches_1 2 rfl rfl)
theorem dX1_matches_27 : decode cX1_matches 27 = .ok (.sipush 999, 3) := dk_17 3 231 (dk_at dksX1_matches_1 4 rfl rfl)
theorem dX1_matches_30 : decode cX1_matches 30 = .ok (.if_icmp .gt 32, 3) := dk_163 0 32 (dk_at dksX1_matches_1 7 rfl rfl)
theorem dX1_matches_33 : decode cX1_matches 33 = .ok (.iload 6, 2) := dk_21 6 (dk_at dksX1_matches_1 10 rfl rfl)
theorem dX1_matches_35 : decode cX1_matches 35 = .ok (.aload 5, 2) := dk_25 5 (dk_at dksX1_matches_1 12 rfl rfl)
theorem dX1_matches_37 : decode cX1_matches 37 = .ok (.aload_n 3, 1) := dk_45 (dk_at dksX1_matches_1 14 rfl rfl)
theorem dX1_matches_38 : decode cX1_matches 38 = .ok (.aload 4, 2) := dk_25 4 (dk_at dksX1_matches_1 15 rfl rfl)
theorem dX1_matches_40 : decode cX1_matches 40 = .ok (.iload 7, 2) := dk_21 7 (dk_at dksX1_matches_1 17 rfl rfl)
theorem dX1_matches_42 : decode cX1_matches 42 = .ok (.invokevirtual 297, 3) := dk_182 1 41 (dk_at dksX1_matches_1 19 rfl rfl)
theorem dX1_matches_45 : decode cX1_matches 45 = .ok (.ifCond .eq 7, 3) := dk_153 0 7 (dk_at dksX1_matches_2 0 rfl rfl)
theorem dX1_matches_48 : decode cX1_matches 48 = .ok (.iconst 1, 1) := dk_4 (dk_at dksX1_matches_2 3 rfl rfl)
theorem dX1_matches_49 : decode cX1_matches 49 = .ok (.goto 4, 3) := dk_167 0 4 (dk_at dksX1_matches_2 4 rfl rfl)
theorem dX1_matches_52 : decode cX1_matches 52 = .ok (.iconst 0, 1) := dk_3 (dk_at dksX1_matches_2 7 rfl rfl)
theorem dX1_matches_53 : decode cX1_matches 53 = .ok (.iadd, 1) := dk_96 (dk_at dksX1_matches_2 8 rfl rfl)
theorem dX1_matches_54 : decode cX1_matches 54 = .ok (.istore 6, 2) := dk_54 6 (dk_at dksX1_matches_2 9 rfl rfl)
theorem dX1_matches_56 : decode cX1_matches 56 = .ok (.iinc 7 1, 3) := dk_132 7 1 (dk_at dksX1_matches_2 11 rfl rfl)
theorem dX1_matches_59 : decode cX1_matches 59 = .ok (.goto (-34), 3) := dk_167 255 222 (dk_at dksX1_matches_2 14 rfl rfl)
theorem dX1_matches_62 : decode cX1_matches 62 = .ok (.iload 6, 2) := dk_21 6 (dk_at dksX1_matches_2 17 rfl rfl)
theorem dX1_matches_64 : decode cX1_matches 64 = .ok (.ireturn, 1) := dk_172 (dk_at dksX1_matches_2 19 rfl rfl)
abbrev cX1_mismatch : ByteArray := prog_1_method_52_code
def yX1_mismatch : MethodName := ⟨RX1, "mismatch", "(II)I"⟩
def dkwX1_mismatch_2 : List UInt8 := [132, 6, 1, 167, 255, 229, 2, 172]
abbrev dktX1_mismatch_2 : List UInt8 := dkwX1_mismatch_2 ++ []
def dkwX1_mismatch_1 : List UInt8 := [17, 3, 231, 163, 0, 25, 25, 5, 45, 25, 4, 21, 6, 182, 1, 41, 154, 0, 6, 21, 6, 172]
abbrev dktX1_mismatch_1 : List UInt8 := dkwX1_mismatch_1 ++ dktX1_mismatch_2
def dkwX1_mismatch_0 : List UInt8 := [42, 27, 182, 1, 30, 78, 42, 28, 182, 1, 30, 58, 4, 42, 182, 0, 246, 58, 5, 3, 54, 6, 21, 6]
abbrev dktX1_mismatch_0 : List UInt8 := dkwX1_mismatch_0 ++ dktX1_mismatch_1
theorem dksX1_mismatch_0 : cX1_mismatch.data.toList.drop 0 = dktX1_mismatch_0 := by decide +kernel
theorem dksX1_mismatch_1 : cX1_mismatch.data.toList.drop 24 = dktX1_mismatch_1 := dk_seg dksX1_mismatch_0 24 rfl rfl
theorem dksX1_mismatch_2 : cX1_mismatch.data.toList.drop 46 = dktX1_mismatch_2 := dk_seg dksX1_mismatch_1 22 rfl rfl
theorem dX1_mismatch_0 : decode cX1_mismatch 0 = .ok (.aload_n 0, 1) := dk_42 (dk_at dksX1_mismatch_0 0 rfl rfl)
theorem dX1_mismatch_1 : decode cX1_mismatch 1 = .ok (.iload_n 1, 1) := dk_27 (dk_at dksX1_mismatch_0 1 rfl rfl)
theorem dX1_mismatch_2 : decode cX1_mismatch 2 = .ok (.invokevirtual 286, 3) := dk_182 1 30 (dk_at dksX1_mismatch_0 2 rfl rfl)
theorem dX1_mismatch_5 : decode cX1_mismatch 5 = .ok (.astore_n 3, 1) := dk_78 (dk_at dksX1_mismatch_0 5 rfl rfl)
theorem dX1_mismatch_6 : decode cX1_mismatch 6 = .ok (.aload_n 0, 1) := dk_42 (dk_at dksX1_mismatch_0 6 rfl rfl)
theorem dX1_mismatch_7 : decode cX1_mismatch 7 = .ok (.iload_n 2, 1) := dk_28 (dk_at dksX1_mismatch_0 7 rfl rfl)
theorem dX1_mismatch_8 : decode cX1_mismatch 8 = .ok (.invokevirtual 286, 3) := dk_182 1 30 (dk_at dksX1_mismatch_0 8 rfl rfl)
theorem dX1_mismatch_11 : decode cX1_mismatch 11 = .ok (.astore 4, 2) := dk_58 4 (dk_at dksX1_mismatch_0 11 rfl rfl)
theorem dX1_mismatch_13 : decode cX1_mismatch 13 = .ok (.aload_n 0, 1) := dk_42 (dk_at dksX1_mismatch_0 13 rfl rfl)
theorem dX1_mismatch_14 : decode cX1_mismatch 14 = .ok (.invokevirtual 246, 3) := dk_182 0 246 (dk_at dksX1_mismatch_0 14 rfl rfl)
theorem dX1_mismatch_17 : decode cX1_mismatch 17 = .ok (.astore 5, 2) := dk_58 5 (dk_at dksX1_mismatch_0 17 rfl rfl)
theorem dX1_mismatch_19 : decode cX1_mismatch 19 = .ok (.iconst 0, 1) := dk_3 (dk_at dksX1_mismatch_0 19 rfl rfl)
theorem dX1_mismatch_20 : decode cX1_mismatch 20 = .ok (.istore 6, 2) := dk_54 6 (dk_at dksX1_mismatch_0 20 rfl rfl)
theorem dX1_mismatch_22 : decode cX1_mismatch 22 = .ok (.iload 6, 2) := dk_21 6 (dk_at dksX1_mismatch_0 22 rfl rfl)
theorem dX1_mismatch_24 : decode cX1_mismatch 24 = .ok (.sipush 999, 3) := dk_17 3 231 (dk_at dksX1_mismatch_1 0 rfl rfl)
theorem dX1_mismatch_27 : decode cX1_mismatch 27 = .ok (.if_icmp .gt 25, 3) := dk_163 0 25 (dk_at dksX1_mismatch_1 3 rfl rfl)
theorem dX1_mismatch_30 : decode cX1_mismatch 30 = .ok (.aload 5, 2) := dk_25 5 (dk_at dksX1_mismatch_1 6 rfl rfl)
theorem dX1_mismatch_32 : decode cX1_mismatch 32 = .ok (.aload_n 3, 1) := dk_45 (dk_at dksX1_mismatch_1 8 rfl rfl)
theorem dX1_mismatch_33 : decode cX1_mismatch 33 = .ok (.aload 4, 2) := dk_25 4 (dk_at dksX1_mismatch_1 9 rfl rfl)
theorem dX1_mismatch_35 : decode cX1_mismatch 35 = .ok (.iload 6, 2) := dk_21 6 (dk_at dksX1_mismatch_1 11 rfl rfl)
theorem dX1_mismatch_37 : decode cX1_mismatch 37 = .ok (.invokevirtual 297, 3) := dk_182 1 41 (dk_at dksX1_mismatch_1 13 rfl rfl)
theorem dX1_mismatch_40 : decode cX1_mismatch 40 = .ok (.ifCond .ne 6, 3) := dk_154 0 6 (dk_at dksX1_mismatch_1 16 rfl rfl)
theorem dX1_mismatch_43 : decode cX1_mismatch 43 = .ok (.iload 6, 2) := dk_21 6 (dk_at dksX1_mismatch_1 19 rfl rfl)
theorem dX1_mismatch_45 : decode cX1_mismatch 45 = .ok (.ireturn, 1) := dk_172 (dk_at dksX1_mismatch_1 21 rfl rfl)
theorem dX1_mismatch_46 : decode cX1_mismatch 46 = .ok (.iinc 6 1, 3) := dk_132 6 1 (dk_at dksX1_mismatch_2 0 rfl rfl)
theorem dX1_mismatch_49 : decode cX1_mismatch 49 = .ok (.goto (-27), 3) := dk_167 255 229 (dk_at dksX1_mismatch_2 3 rfl rfl)
theorem dX1_mismatch_52 : decode cX1_mismatch 52 = .ok (.iconst (-1), 1) := dk_2 (dk_at dksX1_mismatch_2 6 rfl rfl)
theorem dX1_mismatch_53 : decode cX1_mismatch 53 = .ok (.ireturn, 1) := dk_172 (dk_at dksX1_mismatch_2 7 rfl rfl)
abbrev cX1_fittingDen : ByteArray := prog_1_method_53_code
def yX1_fittingDen : MethodName := ⟨RX1, "fittingDen", "(I)I"⟩
def dkwX1_fittingDen_2 : List UInt8 := [21, 4, 172, 132, 4, 1, 167, 255, 219, 2, 172]
abbrev dktX1_fittingDen_2 : List UInt8 := dkwX1_fittingDen_2 ++ []
def dkwX1_fittingDen_1 : List UInt8 := [187, 0, 133, 89, 44, 180, 1, 45, 21, 4, 44, 180, 1, 48, 183, 1, 51, 182, 1, 37, 153, 0, 6]
abbrev dktX1_fittingDen_1 : List UInt8 := dkwX1_fittingDen_1 ++ dktX1_fittingDen_2
def dkwX1_fittingDen_0 : List UInt8 := [42, 27, 182, 1, 30, 77, 42, 182, 0, 246, 78, 4, 54, 4, 21, 4, 16, 9, 163, 0, 36, 45]
abbrev dktX1_fittingDen_0 : List UInt8 := dkwX1_fittingDen_0 ++ dktX1_fittingDen_1
theorem dksX1_fittingDen_0 : cX1_fittingDen.data.toList.drop 0 = dktX1_fittingDen_0 := by decide +kernel
theorem dksX1_fittingDen_1 : cX1_fittingDen.data.toList.drop 22 = dktX1_fittingDen_1 := dk_seg dksX1_fittingDen_0 22 rfl rfl
theorem dksX1_fittingDen_2 : cX1_fittingDen.data.toList.drop 45 = dktX1_fittingDen_2 := dk_seg dksX1_fittingDen_1 23 rfl rfl
theorem dX1_fittingDen_0 : decode cX1_fittingDen 0 = .ok (.aload_n 0, 1) := dk_42 (dk_at dksX1_fittingDen_0 0 rfl rfl)
theorem dX1_fittingDen_1 : decode cX1_fittingDen 1 = .ok (.iload_n 1, 1) := dk_27 (dk_at dksX1_fittingDen_0 1 rfl rfl)
theorem dX1_fittingDen_2 : decode cX1_fittingDen 2 = .ok (.invokevirtual 286, 3) := dk_182 1 30 (dk_at dksX1_fittingDen_0 2 rfl rfl)
theorem dX1_fittingDen_5 : decode cX1_fittingDen 5 = .ok (.astore_n 2, 1) := dk_77 (dk_at dksX1_fittingDen_0 5 rfl rfl)
theorem dX1_fittingDen_6 : decode cX1_fittingDen 6 = .ok (.aload_n 0, 1) := dk_42 (dk_at dksX1_fittingDen_0 6 rfl rfl)
theorem dX1_fittingDen_7 : decode cX1_fittingDen 7 = .ok (.invokevirtual 246, 3) := dk_182 0 246 (dk_at dksX1_fittingDen_0 7 rfl rfl)
theorem dX1_fittingDen_10 : decode cX1_fittingDen 10 = .ok (.astore_n 3, 1) := dk_78 (dk_at dksX1_fittingDen_0 10 rfl rfl)
theorem dX1_fittingDen_11 : decode cX1_fittingDen 11 = .ok (.iconst 1, 1) := dk_4 (dk_at dksX1_fittingDen_0 11 rfl rfl)
theorem dX1_fittingDen_12 : decode cX1_fittingDen 12 = .ok (.istore 4, 2) := dk_54 4 (dk_at dksX1_fittingDen_0 12 rfl rfl)
theorem dX1_fittingDen_14 : decode cX1_fittingDen 14 = .ok (.iload 4, 2) := dk_21 4 (dk_at dksX1_fittingDen_0 14 rfl rfl)
theorem dX1_fittingDen_16 : decode cX1_fittingDen 16 = .ok (.bipush 9, 2) := dk_16 9 (dk_at dksX1_fittingDen_0 16 rfl rfl)
theorem dX1_fittingDen_18 : decode cX1_fittingDen 18 = .ok (.if_icmp .gt 36, 3) := dk_163 0 36 (dk_at dksX1_fittingDen_0 18 rfl rfl)
theorem dX1_fittingDen_21 : decode cX1_fittingDen 21 = .ok (.aload_n 3, 1) := dk_45 (dk_at dksX1_fittingDen_0 21 rfl rfl)
theorem dX1_fittingDen_22 : decode cX1_fittingDen 22 = .ok (.new 133, 3) := dk_187 0 133 (dk_at dksX1_fittingDen_1 0 rfl rfl)
theorem dX1_fittingDen_25 : decode cX1_fittingDen 25 = .ok (.dup, 1) := dk_89 (dk_at dksX1_fittingDen_1 3 rfl rfl)
theorem dX1_fittingDen_26 : decode cX1_fittingDen 26 = .ok (.aload_n 2, 1) := dk_44 (dk_at dksX1_fittingDen_1 4 rfl rfl)
theorem dX1_fittingDen_27 : decode cX1_fittingDen 27 = .ok (.getfield 301, 3) := dk_180 1 45 (dk_at dksX1_fittingDen_1 5 rfl rfl)
theorem dX1_fittingDen_30 : decode cX1_fittingDen 30 = .ok (.iload 4, 2) := dk_21 4 (dk_at dksX1_fittingDen_1 8 rfl rfl)
theorem dX1_fittingDen_32 : decode cX1_fittingDen 32 = .ok (.aload_n 2, 1) := dk_44 (dk_at dksX1_fittingDen_1 10 rfl rfl)
theorem dX1_fittingDen_33 : decode cX1_fittingDen 33 = .ok (.getfield 304, 3) := dk_180 1 48 (dk_at dksX1_fittingDen_1 11 rfl rfl)
theorem dX1_fittingDen_36 : decode cX1_fittingDen 36 = .ok (.invokespecial 307, 3) := dk_183 1 51 (dk_at dksX1_fittingDen_1 14 rfl rfl)
theorem dX1_fittingDen_39 : decode cX1_fittingDen 39 = .ok (.invokevirtual 293, 3) := dk_182 1 37 (dk_at dksX1_fittingDen_1 17 rfl rfl)
theorem dX1_fittingDen_42 : decode cX1_fittingDen 42 = .ok (.ifCond .eq 6, 3) := dk_153 0 6 (dk_at dksX1_fittingDen_1 20 rfl rfl)
theorem dX1_fittingDen_45 : decode cX1_fittingDen 45 = .ok (.iload 4, 2) := dk_21 4 (dk_at dksX1_fittingDen_2 0 rfl rfl)
theorem dX1_fittingDen_47 : decode cX1_fittingDen 47 = .ok (.ireturn, 1) := dk_172 (dk_at dksX1_fittingDen_2 2 rfl rfl)
theorem dX1_fittingDen_48 : decode cX1_fittingDen 48 = .ok (.iinc 4 1, 3) := dk_132 4 1 (dk_at dksX1_fittingDen_2 3 rfl rfl)
theorem dX1_fittingDen_51 : decode cX1_fittingDen 51 = .ok (.goto (-37), 3) := dk_167 255 219 (dk_at dksX1_fittingDen_2 6 rfl rfl)
theorem dX1_fittingDen_54 : decode cX1_fittingDen 54 = .ok (.iconst (-1), 1) := dk_2 (dk_at dksX1_fittingDen_2 9 rfl rfl)
theorem dX1_fittingDen_55 : decode cX1_fittingDen 55 = .ok (.ireturn, 1) := dk_172 (dk_at dksX1_fittingDen_2 10 rfl rfl)
abbrev cX1_earliest : ByteArray := prog_1_method_54_code
def yX1_earliest : MethodName := ⟨RX1, "earliest", "(I)I"⟩
def dkwX1_earliest_4 : List UInt8 := [172]
abbrev dktX1_earliest_4 : List UInt8 := dkwX1_earliest_4 ++ []
def dkwX1_earliest_3 : List UInt8 := [160, 0, 9, 25, 4, 180, 0, 174, 172, 25, 4, 89, 180, 0, 174, 4, 96, 181, 0, 174, 167, 255, 199, 2]
abbrev dktX1_earliest_3 : List UInt8 := dkwX1_earliest_3 ++ dktX1_earliest_4
def dkwX1_earliest_2 : List UInt8 := [100, 163, 0, 46, 42, 180, 0, 46, 45, 182, 0, 214, 27, 3, 182, 1, 54, 44, 180, 0, 148, 184, 1, 57]
abbrev dktX1_earliest_2 : List UInt8 := dkwX1_earliest_2 ++ dktX1_earliest_3
def dkwX1_earliest_1 : List UInt8 := [192, 0, 128, 58, 4, 25, 4, 3, 181, 0, 174, 25, 4, 180, 0, 174, 17, 3, 231, 25, 4, 180, 0, 177]
abbrev dktX1_earliest_1 : List UInt8 := dkwX1_earliest_1 ++ dktX1_earliest_2
def dkwX1_earliest_0 : List UInt8 := [42, 27, 182, 0, 140, 77, 42, 180, 0, 39, 182, 0, 80, 78, 45, 180, 0, 114, 27, 182, 0, 122]
abbrev dktX1_earliest_0 : List UInt8 := dkwX1_earliest_0 ++ dktX1_earliest_1
theorem dksX1_earliest_0 : cX1_earliest.data.toList.drop 0 = dktX1_earliest_0 := by decide +kernel
theorem dksX1_earliest_1 : cX1_earliest.data.toList.drop 22 = dktX1_earliest_1 := dk_seg dksX1_earliest_0 22 rfl rfl
theorem dksX1_earliest_2 : cX1_earliest.data.toList.drop 46 = dktX1_earliest_2 := dk_seg dksX1_earliest_1 24 rfl rfl
theorem dksX1_earliest_3 : cX1_earliest.data.toList.drop 70 = dktX1_earliest_3 := dk_seg dksX1_earliest_2 24 rfl rfl
theorem dksX1_earliest_4 : cX1_earliest.data.toList.drop 94 = dktX1_earliest_4 := dk_seg dksX1_earliest_3 24 rfl rfl
theorem dX1_earliest_0 : decode cX1_earliest 0 = .ok (.aload_n 0, 1) := dk_42 (dk_at dksX1_earliest_0 0 rfl rfl)
theorem dX1_earliest_1 : decode cX1_earliest 1 = .ok (.iload_n 1, 1) := dk_27 (dk_at dksX1_earliest_0 1 rfl rfl)
theorem dX1_earliest_2 : decode cX1_earliest 2 = .ok (.invokevirtual 140, 3) := dk_182 0 140 (dk_at dksX1_earliest_0 2 rfl rfl)
theorem dX1_earliest_5 : decode cX1_earliest 5 = .ok (.astore_n 2, 1) := dk_77 (dk_at dksX1_earliest_0 5 rfl rfl)
theorem dX1_earliest_6 : decode cX1_earliest 6 = .ok (.aload_n 0, 1) := dk_42 (dk_at dksX1_earliest_0 6 rfl rfl)
theorem dX1_earliest_7 : decode cX1_earliest 7 = .ok (.getfield 39, 3) := dk_180 0 39 (dk_at dksX1_earliest_0 7 rfl rfl)
theorem dX1_earliest_10 : decode cX1_earliest 10 = .ok (.invokevirtual 80, 3) := dk_182 0 80 (dk_at dksX1_earliest_0 10 rfl rfl)
theorem dX1_earliest_13 : decode cX1_earliest 13 = .ok (.astore_n 3, 1) := dk_78 (dk_at dksX1_earliest_0 13 rfl rfl)
theorem dX1_earliest_14 : decode cX1_earliest 14 = .ok (.aload_n 3, 1) := dk_45 (dk_at dksX1_earliest_0 14 rfl rfl)
theorem dX1_earliest_15 : decode cX1_earliest 15 = .ok (.getfield 114, 3) := dk_180 0 114 (dk_at dksX1_earliest_0 15 rfl rfl)
theorem dX1_earliest_18 : decode cX1_earliest 18 = .ok (.iload_n 1, 1) := dk_27 (dk_at dksX1_earliest_0 18 rfl rfl)
theorem dX1_earliest_19 : decode cX1_earliest 19 = .ok (.invokevirtual 122, 3) := dk_182 0 122 (dk_at dksX1_earliest_0 19 rfl rfl)
theorem dX1_earliest_22 : decode cX1_earliest 22 = .ok (.checkcast 128, 3) := dk_192 0 128 (dk_at dksX1_earliest_1 0 rfl rfl)
theorem dX1_earliest_25 : decode cX1_earliest 25 = .ok (.astore 4, 2) := dk_58 4 (dk_at dksX1_earliest_1 3 rfl rfl)
theorem dX1_earliest_27 : decode cX1_earliest 27 = .ok (.aload 4, 2) := dk_25 4 (dk_at dksX1_earliest_1 5 rfl rfl)
theorem dX1_earliest_29 : decode cX1_earliest 29 = .ok (.iconst 0, 1) := dk_3 (dk_at dksX1_earliest_1 7 rfl rfl)
theorem dX1_earliest_30 : decode cX1_earliest 30 = .ok (.putfield 174, 3) := dk_181 0 174 (dk_at dksX1_earliest_1 8 rfl rfl)
theorem dX1_earliest_33 : decode cX1_earliest 33 = .ok (.aload 4, 2) := dk_25 4 (dk_at dksX1_earliest_1 11 rfl rfl)
theorem dX1_earliest_35 : decode cX1_earliest 35 = .ok (.getfield 174, 3) := dk_180 0 174 (dk_at dksX1_earliest_1 13 rfl rfl)
theorem dX1_earliest_38 : decode cX1_earliest 38 = .ok (.sipush 999, 3) := dk_17 3 231 (dk_at dksX1_earliest_1 16 rfl rfl)
theorem dX1_earliest_41 : decode cX1_earliest 41 = .ok (.aload 4, 2) := dk_25 4 (dk_at dksX1_earliest_1 19 rfl rfl)
theorem dX1_earliest_43 : decode cX1_earliest 43 = .ok (.getfield 177, 3) := dk_180 0 177 (dk_at dksX1_earliest_1 21 rfl rfl)
theorem dX1_earliest_46 : decode cX1_earliest 46 = .ok (.isub, 1) := dk_100 (dk_at dksX1_earliest_2 0 rfl rfl)
theorem dX1_earliest_47 : decode cX1_earliest 47 = .ok (.if_icmp .gt 46, 3) := dk_163 0 46 (dk_at dksX1_earliest_2 1 rfl rfl)
theorem dX1_earliest_50 : decode cX1_earliest 50 = .ok (.aload_n 0, 1) := dk_42 (dk_at dksX1_earliest_2 4 rfl rfl)
theorem dX1_earliest_51 : decode cX1_earliest 51 = .ok (.getfield 46, 3) := dk_180 0 46 (dk_at dksX1_earliest_2 5 rfl rfl)
theorem dX1_earliest_54 : decode cX1_earliest 54 = .ok (.aload_n 3, 1) := dk_45 (dk_at dksX1_earliest_2 8 rfl rfl)
theorem dX1_earliest_55 : decode cX1_earliest 55 = .ok (.invokevirtual 214, 3) := dk_182 0 214 (dk_at dksX1_earliest_2 9 rfl rfl)
theorem dX1_earliest_58 : decode cX1_earliest 58 = .ok (.iload_n 1, 1) := dk_27 (dk_at dksX1_earliest_2 12 rfl rfl)
theorem dX1_earliest_59 : decode cX1_earliest 59 = .ok (.iconst 0, 1) := dk_3 (dk_at dksX1_earliest_2 13 rfl rfl)
theorem dX1_earliest_60 : decode cX1_earliest 60 = .ok (.invokevirtual 310, 3) := dk_182 1 54 (dk_at dksX1_earliest_2 14 rfl rfl)
theorem dX1_earliest_63 : decode cX1_earliest 63 = .ok (.aload_n 2, 1) := dk_44 (dk_at dksX1_earliest_2 17 rfl rfl)
theorem dX1_earliest_64 : decode cX1_earliest 64 = .ok (.getfield 148, 3) := dk_180 0 148 (dk_at dksX1_earliest_2 18 rfl rfl)
theorem dX1_earliest_67 : decode cX1_earliest 67 = .ok (.invokestatic 313, 3) := dk_184 1 57 (dk_at dksX1_earliest_2 21 rfl rfl)
theorem dX1_earliest_70 : decode cX1_earliest 70 = .ok (.if_icmp .ne 9, 3) := dk_160 0 9 (dk_at dksX1_earliest_3 0 rfl rfl)
theorem dX1_earliest_73 : decode cX1_earliest 73 = .ok (.aload 4, 2) := dk_25 4 (dk_at dksX1_earliest_3 3 rfl rfl)
theorem dX1_earliest_75 : decode cX1_earliest 75 = .ok (.getfield 174, 3) := dk_180 0 174 (dk_at dksX1_earliest_3 5 rfl rfl)
theorem dX1_earliest_78 : decode cX1_earliest 78 = .ok (.ireturn, 1) := dk_172 (dk_at dksX1_earliest_3 8 rfl rfl)
theorem dX1_earliest_79 : decode cX1_earliest 79 = .ok (.aload 4, 2) := dk_25 4 (dk_at dksX1_earliest_3 9 rfl rfl)
theorem dX1_earliest_81 : decode cX1_earliest 81 = .ok (.dup, 1) := dk_89 (dk_at dksX1_earliest_3 11 rfl rfl)
theorem dX1_earliest_82 : decode cX1_earliest 82 = .ok (.getfield 174, 3) := dk_180 0 174 (dk_at dksX1_earliest_3 12 rfl rfl)
theorem dX1_earliest_85 : decode cX1_earliest 85 = .ok (.iconst 1, 1) := dk_4 (dk_at dksX1_earliest_3 15 rfl rfl)
theorem dX1_earliest_86 : decode cX1_earliest 86 = .ok (.iadd, 1) := dk_96 (dk_at dksX1_earliest_3 16 rfl rfl)
theorem dX1_earliest_87 : decode cX1_earliest 87 = .ok (.putfield 174, 3) := dk_181 0 174 (dk_at dksX1_earliest_3 17 rfl rfl)
theorem dX1_earliest_90 : decode cX1_earliest 90 = .ok (.goto (-57), 3) := dk_167 255 199 (dk_at dksX1_earliest_3 20 rfl rfl)
theorem dX1_earliest_93 : decode cX1_earliest 93 = .ok (.iconst (-1), 1) := dk_2 (dk_at dksX1_earliest_3 23 rfl rfl)
theorem dX1_earliest_94 : decode cX1_earliest 94 = .ok (.ireturn, 1) := dk_172 (dk_at dksX1_earliest_4 0 rfl rfl)
abbrev cX1_hitsIf : ByteArray := prog_1_method_55_code
def yX1_hitsIf : MethodName := ⟨RX1, "hitsIf", "(II)I"⟩
def dkwX1_hitsIf_2 : List UInt8 := [181, 0, 174, 42, 180, 0, 46, 25, 4, 182, 0, 218, 182, 1, 62, 172]
abbrev dktX1_hitsIf_2 : List UInt8 := dkwX1_hitsIf_2 ++ []
def dkwX1_hitsIf_1 : List UInt8 := [42, 180, 0, 39, 182, 0, 80, 58, 4, 25, 4, 180, 0, 114, 27, 182, 0, 122, 192, 0, 128, 28]
abbrev dktX1_hitsIf_1 : List UInt8 := dkwX1_hitsIf_1 ++ dktX1_hitsIf_2
def dkwX1_hitsIf_0 : List UInt8 := [42, 27, 182, 0, 140, 78, 28, 133, 9, 17, 3, 231, 45, 180, 0, 177, 100, 133, 184, 0, 15, 184, 0, 95]
abbrev dktX1_hitsIf_0 : List UInt8 := dkwX1_hitsIf_0 ++ dktX1_hitsIf_1
theorem dksX1_hitsIf_0 : cX1_hitsIf.data.toList.drop 0 = dktX1_hitsIf_0 := by decide +kernel
theorem dksX1_hitsIf_1 : cX1_hitsIf.data.toList.drop 24 = dktX1_hitsIf_1 := dk_seg dksX1_hitsIf_0 24 rfl rfl
theorem dksX1_hitsIf_2 : cX1_hitsIf.data.toList.drop 46 = dktX1_hitsIf_2 := dk_seg dksX1_hitsIf_1 22 rfl rfl
theorem dX1_hitsIf_0 : decode cX1_hitsIf 0 = .ok (.aload_n 0, 1) := dk_42 (dk_at dksX1_hitsIf_0 0 rfl rfl)
theorem dX1_hitsIf_1 : decode cX1_hitsIf 1 = .ok (.iload_n 1, 1) := dk_27 (dk_at dksX1_hitsIf_0 1 rfl rfl)
theorem dX1_hitsIf_2 : decode cX1_hitsIf 2 = .ok (.invokevirtual 140, 3) := dk_182 0 140 (dk_at dksX1_hitsIf_0 2 rfl rfl)
theorem dX1_hitsIf_5 : decode cX1_hitsIf 5 = .ok (.astore_n 3, 1) := dk_78 (dk_at dksX1_hitsIf_0 5 rfl rfl)
theorem dX1_hitsIf_6 : decode cX1_hitsIf 6 = .ok (.iload_n 2, 1) := dk_28 (dk_at dksX1_hitsIf_0 6 rfl rfl)
theorem dX1_hitsIf_7 : decode cX1_hitsIf 7 = .ok (.i2l, 1) := dk_133 (dk_at dksX1_hitsIf_0 7 rfl rfl)
theorem dX1_hitsIf_8 : decode cX1_hitsIf 8 = .ok (.lconst 0, 1) := dk_9 (dk_at dksX1_hitsIf_0 8 rfl rfl)
theorem dX1_hitsIf_9 : decode cX1_hitsIf 9 = .ok (.sipush 999, 3) := dk_17 3 231 (dk_at dksX1_hitsIf_0 9 rfl rfl)
theorem dX1_hitsIf_12 : decode cX1_hitsIf 12 = .ok (.aload_n 3, 1) := dk_45 (dk_at dksX1_hitsIf_0 12 rfl rfl)
theorem dX1_hitsIf_13 : decode cX1_hitsIf 13 = .ok (.getfield 177, 3) := dk_180 0 177 (dk_at dksX1_hitsIf_0 13 rfl rfl)
theorem dX1_hitsIf_16 : decode cX1_hitsIf 16 = .ok (.isub, 1) := dk_100 (dk_at dksX1_hitsIf_0 16 rfl rfl)
theorem dX1_hitsIf_17 : decode cX1_hitsIf 17 = .ok (.i2l, 1) := dk_133 (dk_at dksX1_hitsIf_0 17 rfl rfl)
theorem dX1_hitsIf_18 : decode cX1_hitsIf 18 = .ok (.invokestatic 15, 3) := dk_184 0 15 (dk_at dksX1_hitsIf_0 18 rfl rfl)
theorem dX1_hitsIf_21 : decode cX1_hitsIf 21 = .ok (.invokestatic 95, 3) := dk_184 0 95 (dk_at dksX1_hitsIf_0 21 rfl rfl)
theorem dX1_hitsIf_24 : decode cX1_hitsIf 24 = .ok (.aload_n 0, 1) := dk_42 (dk_at dksX1_hitsIf_1 0 rfl rfl)
theorem dX1_hitsIf_25 : decode cX1_hitsIf 25 = .ok (.getfield 39, 3) := dk_180 0 39 (dk_at dksX1_hitsIf_1 1 rfl rfl)
theorem dX1_hitsIf_28 : decode cX1_hitsIf 28 = .ok (.invokevirtual 80, 3) := dk_182 0 80 (dk_at dksX1_hitsIf_1 4 rfl rfl)
theorem dX1_hitsIf_31 : decode cX1_hitsIf 31 = .ok (.astore 4, 2) := dk_58 4 (dk_at dksX1_hitsIf_1 7 rfl rfl)
theorem dX1_hitsIf_33 : decode cX1_hitsIf 33 = .ok (.aload 4, 2) := dk_25 4 (dk_at dksX1_hitsIf_1 9 rfl rfl)
theorem dX1_hitsIf_35 : decode cX1_hitsIf 35 = .ok (.getfield 114, 3) := dk_180 0 114 (dk_at dksX1_hitsIf_1 11 rfl rfl)
theorem dX1_hitsIf_38 : decode cX1_hitsIf 38 = .ok (.iload_n 1, 1) := dk_27 (dk_at dksX1_hitsIf_1 14 rfl rfl)
theorem dX1_hitsIf_39 : decode cX1_hitsIf 39 = .ok (.invokevirtual 122, 3) := dk_182 0 122 (dk_at dksX1_hitsIf_1 15 rfl rfl)
theorem dX1_hitsIf_42 : decode cX1_hitsIf 42 = .ok (.checkcast 128, 3) := dk_192 0 128 (dk_at dksX1_hitsIf_1 18 rfl rfl)
theorem dX1_hitsIf_45 : decode cX1_hitsIf 45 = .ok (.iload_n 2, 1) := dk_28 (dk_at dksX1_hitsIf_1 21 rfl rfl)
theorem dX1_hitsIf_46 : decode cX1_hitsIf 46 = .ok (.putfield 174, 3) := dk_181 0 174 (dk_at dksX1_hitsIf_2 0 rfl rfl)
theorem dX1_hitsIf_49 : decode cX1_hitsIf 49 = .ok (.aload_n 0, 1) := dk_42 (dk_at dksX1_hitsIf_2 3 rfl rfl)
theorem dX1_hitsIf_50 : decode cX1_hitsIf 50 = .ok (.getfield 46, 3) := dk_180 0 46 (dk_at dksX1_hitsIf_2 4 rfl rfl)
theorem dX1_hitsIf_53 : decode cX1_hitsIf 53 = .ok (.aload 4, 2) := dk_25 4 (dk_at dksX1_hitsIf_2 7 rfl rfl)
theorem dX1_hitsIf_55 : decode cX1_hitsIf 55 = .ok (.invokevirtual 218, 3) := dk_182 0 218 (dk_at dksX1_hitsIf_2 9 rfl rfl)
theorem dX1_hitsIf_58 : decode cX1_hitsIf 58 = .ok (.invokevirtual 318, 3) := dk_182 1 62 (dk_at dksX1_hitsIf_2 12 rfl rfl)
theorem dX1_hitsIf_61 : decode cX1_hitsIf 61 = .ok (.ireturn, 1) := dk_172 (dk_at dksX1_hitsIf_2 15 rfl rfl)
abbrev cX1_mostSaved : ByteArray := prog_1_method_56_code
def yX1_mostSaved : MethodName := ⟨RX1, "mostSaved", "(I)I"⟩
def dkwX1_mostSaved_6 : List UInt8 := [54, 6, 132, 7, 1, 167, 255, 202, 21, 6, 172]
abbrev dktX1_mostSaved_6 : List UInt8 := dkwX1_mostSaved_6 ++ []
def dkwX1_mostSaved_5 : List UInt8 := [159, 0, 16, 25, 5, 21, 7, 46, 25, 5, 21, 6, 46, 164, 0, 8, 21, 7, 167, 0, 5, 21, 6]
abbrev dktX1_mostSaved_5 : List UInt8 := dkwX1_mostSaved_5 ++ dktX1_mostSaved_6
def dkwX1_mostSaved_4 : List UInt8 := [42, 180, 0, 39, 180, 0, 119, 182, 0, 118, 162, 0, 45, 25, 5, 21, 7, 46, 158, 0, 27, 21, 6, 2]
abbrev dktX1_mostSaved_4 : List UInt8 := dkwX1_mostSaved_4 ++ dktX1_mostSaved_5
def dkwX1_mostSaved_3 : List UInt8 := [182, 0, 218, 21, 6, 182, 1, 6, 100, 79, 132, 6, 1, 167, 255, 210, 2, 54, 6, 3, 54, 7, 21, 7]
abbrev dktX1_mostSaved_3 : List UInt8 := dkwX1_mostSaved_3 ++ dktX1_mostSaved_4
def dkwX1_mostSaved_2 : List UInt8 := [182, 0, 118, 162, 0, 37, 25, 5, 21, 6, 42, 182, 0, 246, 21, 6, 182, 1, 6, 42, 180, 0, 46, 45]
abbrev dktX1_mostSaved_2 : List UInt8 := dkwX1_mostSaved_2 ++ dktX1_mostSaved_3
def dkwX1_mostSaved_1 : List UInt8 := [192, 0, 128, 58, 4, 7, 188, 10, 58, 5, 3, 54, 6, 21, 6, 42, 180, 0, 39, 180, 0, 119]
abbrev dktX1_mostSaved_1 : List UInt8 := dkwX1_mostSaved_1 ++ dktX1_mostSaved_2
def dkwX1_mostSaved_0 : List UInt8 := [42, 27, 182, 0, 140, 77, 42, 180, 0, 39, 182, 0, 80, 78, 45, 180, 0, 114, 27, 182, 1, 65]
abbrev dktX1_mostSaved_0 : List UInt8 := dkwX1_mostSaved_0 ++ dktX1_mostSaved_1
theorem dksX1_mostSaved_0 : cX1_mostSaved.data.toList.drop 0 = dktX1_mostSaved_0 := by decide +kernel
theorem dksX1_mostSaved_1 : cX1_mostSaved.data.toList.drop 22 = dktX1_mostSaved_1 := dk_seg dksX1_mostSaved_0 22 rfl rfl
theorem dksX1_mostSaved_2 : cX1_mostSaved.data.toList.drop 44 = dktX1_mostSaved_2 := dk_seg dksX1_mostSaved_1 22 rfl rfl
theorem dksX1_mostSaved_3 : cX1_mostSaved.data.toList.drop 68 = dktX1_mostSaved_3 := dk_seg dksX1_mostSaved_2 24 rfl rfl
theorem dksX1_mostSaved_4 : cX1_mostSaved.data.toList.drop 92 = dktX1_mostSaved_4 := dk_seg dksX1_mostSaved_3 24 rfl rfl
theorem dksX1_mostSaved_5 : cX1_mostSaved.data.toList.drop 116 = dktX1_mostSaved_5 := dk_seg dksX1_mostSaved_4 24 rfl rfl
theorem dksX1_mostSaved_6 : cX1_mostSaved.data.toList.drop 139 = dktX1_mostSaved_6 := dk_seg dksX1_mostSaved_5 23 rfl rfl
theorem dX1_mostSaved_0 : decode cX1_mostSaved 0 = .ok (.aload_n 0, 1) := dk_42 (dk_at dksX1_mostSaved_0 0 rfl rfl)
theorem dX1_mostSaved_1 : decode cX1_mostSaved 1 = .ok (.iload_n 1, 1) := dk_27 (dk_at dksX1_mostSaved_0 1 rfl rfl)
theorem dX1_mostSaved_2 : decode cX1_mostSaved 2 = .ok (.invokevirtual 140, 3) := dk_182 0 140 (dk_at dksX1_mostSaved_0 2 rfl rfl)
theorem dX1_mostSaved_5 : decode cX1_mostSaved 5 = .ok (.astore_n 2, 1) := dk_77 (dk_at dksX1_mostSaved_0 5 rfl rfl)
theorem dX1_mostSaved_6 : decode cX1_mostSaved 6 = .ok (.aload_n 0, 1) := dk_42 (dk_at dksX1_mostSaved_0 6 rfl rfl)
theorem dX1_mostSaved_7 : decode cX1_mostSaved 7 = .ok (.getfield 39, 3) := dk_180 0 39 (dk_at dksX1_mostSaved_0 7 rfl rfl)
theorem dX1_mostSaved_10 : decode cX1_mostSaved 10 = .ok (.invokevirtual 80, 3) := dk_182 0 80 (dk_at dksX1_mostSaved_0 10 rfl rfl)
theorem dX1_mostSaved_13 : decode cX1_mostSaved 13 = .ok (.astore_n 3, 1) := dk_78 (dk_at dksX1_mostSaved_0 13 rfl rfl)
theorem dX1_mostSaved_14 : decode cX1_mostSaved 14 = .ok (.aload_n 3, 1) := dk_45 (dk_at dksX1_mostSaved_0 14 rfl rfl)
theorem dX1_mostSaved_15 : decode cX1_mostSaved 15 = .ok (.getfield 114, 3) := dk_180 0 114 (dk_at dksX1_mostSaved_0 15 rfl rfl)
theorem dX1_mostSaved_18 : decode cX1_mostSaved 18 = .ok (.iload_n 1, 1) := dk_27 (dk_at dksX1_mostSaved_0 18 rfl rfl)
theorem dX1_mostSaved_19 : decode cX1_mostSaved 19 = .ok (.invokevirtual 321, 3) := dk_182 1 65 (dk_at dksX1_mostSaved_0 19 rfl rfl)
theorem dX1_mostSaved_22 : decode cX1_mostSaved 22 = .ok (.checkcast 128, 3) := dk_192 0 128 (dk_at dksX1_mostSaved_1 0 rfl rfl)
theorem dX1_mostSaved_25 : decode cX1_mostSaved 25 = .ok (.astore 4, 2) := dk_58 4 (dk_at dksX1_mostSaved_1 3 rfl rfl)
theorem dX1_mostSaved_27 : decode cX1_mostSaved 27 = .ok (.iconst 4, 1) := dk_7 (dk_at dksX1_mostSaved_1 5 rfl rfl)
theorem dX1_mostSaved_28 : decode cX1_mostSaved 28 = .ok (.newarray .int, 2) := dk_188_10 (dk_at dksX1_mostSaved_1 6 rfl rfl)
theorem dX1_mostSaved_30 : decode cX1_mostSaved 30 = .ok (.astore 5, 2) := dk_58 5 (dk_at dksX1_mostSaved_1 8 rfl rfl)
theorem dX1_mostSaved_32 : decode cX1_mostSaved 32 = .ok (.iconst 0, 1) := dk_3 (dk_at dksX1_mostSaved_1 10 rfl rfl)
theorem dX1_mostSaved_33 : decode cX1_mostSaved 33 = .ok (.istore 6, 2) := dk_54 6 (dk_at dksX1_mostSaved_1 11 rfl rfl)
theorem dX1_mostSaved_35 : decode cX1_mostSaved 35 = .ok (.iload 6, 2) := dk_21 6 (dk_at dksX1_mostSaved_1 13 rfl rfl)
theorem dX1_mostSaved_37 : decode cX1_mostSaved 37 = .ok (.aload_n 0, 1) := dk_42 (dk_at dksX1_mostSaved_1 15 rfl rfl)
theorem dX1_mostSaved_38 : decode cX1_mostSaved 38 = .ok (.getfield 39, 3) := dk_180 0 39 (dk_at dksX1_mostSaved_1 16 rfl rfl)
theorem dX1_mostSaved_41 : decode cX1_mostSaved 41 = .ok (.getfield 119, 3) := dk_180 0 119 (dk_at dksX1_mostSaved_1 19 rfl rfl)
theorem dX1_mostSaved_44 : decode cX1_mostSaved 44 = .ok (.invokevirtual 118, 3) := dk_182 0 118 (dk_at dksX1_mostSaved_2 0 rfl rfl)
theorem dX1_mostSaved_47 : decode cX1_mostSaved 47 = .ok (.if_icmp .ge 37, 3) := dk_162 0 37 (dk_at dksX1_mostSaved_2 3 rfl rfl)
theorem dX1_mostSaved_50 : decode cX1_mostSaved 50 = .ok (.aload 5, 2) := dk_25 5 (dk_at dksX1_mostSaved_2 6 rfl rfl)
theorem dX1_mostSaved_52 : decode cX1_mostSaved 52 = .ok (.iload 6, 2) := dk_21 6 (dk_at dksX1_mostSaved_2 8 rfl rfl)
theorem dX1_mostSaved_54 : decode cX1_mostSaved 54 = .ok (.aload_n 0, 1) := dk_42 (dk_at dksX1_mostSaved_2 10 rfl rfl)
theorem dX1_mostSaved_55 : decode cX1_mostSaved 55 = .ok (.invokevirtual 246, 3) := dk_182 0 246 (dk_at dksX1_mostSaved_2 11 rfl rfl)
theorem dX1_mostSaved_58 : decode cX1_mostSaved 58 = .ok (.iload 6, 2) := dk_21 6 (dk_at dksX1_mostSaved_2 14 rfl rfl)
theorem dX1_mostSaved_60 : decode cX1_mostSaved 60 = .ok (.invokevirtual 262, 3) := dk_182 1 6 (dk_at dksX1_mostSaved_2 16 rfl rfl)
theorem dX1_mostSaved_63 : decode cX1_mostSaved 63 = .ok (.aload_n 0, 1) := dk_42 (dk_at dksX1_mostSaved_2 19 rfl rfl)
theorem dX1_mostSaved_64 : decode cX1_mostSaved 64 = .ok (.getfield 46, 3) := dk_180 0 46 (dk_at dksX1_mostSaved_2 20 rfl rfl)
theorem dX1_mostSaved_67 : decode cX1_mostSaved 67 = .ok (.aload_n 3, 1) := dk_45 (dk_at dksX1_mostSaved_2 23 rfl rfl)
theorem dX1_mostSaved_68 : decode cX1_mostSaved 68 = .ok (.invokevirtual 218, 3) := dk_182 0 218 (dk_at dksX1_mostSaved_3 0 rfl rfl)
theorem dX1_mostSaved_71 : decode cX1_mostSaved 71 = .ok (.iload 6, 2) := dk_21 6 (dk_at dksX1_mostSaved_3 3 rfl rfl)
theorem dX1_mostSaved_73 : decode cX1_mostSaved 73 = .ok (.invokevirtual 262, 3) := dk_182 1 6 (dk_at dksX1_mostSaved_3 5 rfl rfl)
theorem dX1_mostSaved_76 : decode cX1_mostSaved 76 = .ok (.isub, 1) := dk_100 (dk_at dksX1_mostSaved_3 8 rfl rfl)
theorem dX1_mostSaved_77 : decode cX1_mostSaved 77 = .ok (.iastore, 1) := dk_79 (dk_at dksX1_mostSaved_3 9 rfl rfl)
theorem dX1_mostSaved_78 : decode cX1_mostSaved 78 = .ok (.iinc 6 1, 3) := dk_132 6 1 (dk_at dksX1_mostSaved_3 10 rfl rfl)
theorem dX1_mostSaved_81 : decode cX1_mostSaved 81 = .ok (.goto (-46), 3) := dk_167 255 210 (dk_at dksX1_mostSaved_3 13 rfl rfl)
theorem dX1_mostSaved_84 : decode cX1_mostSaved 84 = .ok (.iconst (-1), 1) := dk_2 (dk_at dksX1_mostSaved_3 16 rfl rfl)
theorem dX1_mostSaved_85 : decode cX1_mostSaved 85 = .ok (.istore 6, 2) := dk_54 6 (dk_at dksX1_mostSaved_3 17 rfl rfl)
theorem dX1_mostSaved_87 : decode cX1_mostSaved 87 = .ok (.iconst 0, 1) := dk_3 (dk_at dksX1_mostSaved_3 19 rfl rfl)
theorem dX1_mostSaved_88 : decode cX1_mostSaved 88 = .ok (.istore 7, 2) := dk_54 7 (dk_at dksX1_mostSaved_3 20 rfl rfl)
theorem dX1_mostSaved_90 : decode cX1_mostSaved 90 = .ok (.iload 7, 2) := dk_21 7 (dk_at dksX1_mostSaved_3 22 rfl rfl)
theorem dX1_mostSaved_92 : decode cX1_mostSaved 92 = .ok (.aload_n 0, 1) := dk_42 (dk_at dksX1_mostSaved_4 0 rfl rfl)
theorem dX1_mostSaved_93 : decode cX1_mostSaved 93 = .ok (.getfield 39, 3) := dk_180 0 39 (dk_at dksX1_mostSaved_4 1 rfl rfl)
theorem dX1_mostSaved_96 : decode cX1_mostSaved 96 = .ok (.getfield 119, 3) := dk_180 0 119 (dk_at dksX1_mostSaved_4 4 rfl rfl)
theorem dX1_mostSaved_99 : decode cX1_mostSaved 99 = .ok (.invokevirtual 118, 3) := dk_182 0 118 (dk_at dksX1_mostSaved_4 7 rfl rfl)
theorem dX1_mostSaved_102 : decode cX1_mostSaved 102 = .ok (.if_icmp .ge 45, 3) := dk_162 0 45 (dk_at dksX1_mostSaved_4 10 rfl rfl)
theorem dX1_mostSaved_105 : decode cX1_mostSaved 105 = .ok (.aload 5, 2) := dk_25 5 (dk_at dksX1_mostSaved_4 13 rfl rfl)
theorem dX1_mostSaved_107 : decode cX1_mostSaved 107 = .ok (.iload 7, 2) := dk_21 7 (dk_at dksX1_mostSaved_4 15 rfl rfl)
theorem dX1_mostSaved_109 : decode cX1_mostSaved 109 = .ok (.iaload, 1) := dk_46 (dk_at dksX1_mostSaved_4 17 rfl rfl)
theorem dX1_mostSaved_110 : decode cX1_mostSaved 110 = .ok (.ifCond .le 27, 3) := dk_158 0 27 (dk_at dksX1_mostSaved_4 18 rfl rfl)
theorem dX1_mostSaved_113 : decode cX1_mostSaved 113 = .ok (.iload 6, 2) := dk_21 6 (dk_at dksX1_mostSaved_4 21 rfl rfl)
theorem dX1_mostSaved_115 : decode cX1_mostSaved 115 = .ok (.iconst (-1), 1) := dk_2 (dk_at dksX1_mostSaved_4 23 rfl rfl)
theorem dX1_mostSaved_116 : decode cX1_mostSaved 116 = .ok (.if_icmp .eq 16, 3) := dk_159 0 16 (dk_at dksX1_mostSaved_5 0 rfl rfl)
theorem dX1_mostSaved_119 : decode cX1_mostSaved 119 = .ok (.aload 5, 2) := dk_25 5 (dk_at dksX1_mostSaved_5 3 rfl rfl)
theorem dX1_mostSaved_121 : decode cX1_mostSaved 121 = .ok (.iload 7, 2) := dk_21 7 (dk_at dksX1_mostSaved_5 5 rfl rfl)
theorem dX1_mostSaved_123 : decode cX1_mostSaved 123 = .ok (.iaload, 1) := dk_46 (dk_at dksX1_mostSaved_5 7 rfl rfl)
theorem dX1_mostSaved_124 : decode cX1_mostSaved 124 = .ok (.aload 5, 2) := dk_25 5 (dk_at dksX1_mostSaved_5 8 rfl rfl)
theorem dX1_mostSaved_126 : decode cX1_mostSaved 126 = .ok (.iload 6, 2) := dk_21 6 (dk_at dksX1_mostSaved_5 10 rfl rfl)
theorem dX1_mostSaved_128 : decode cX1_mostSaved 128 = .ok (.iaload, 1) := dk_46 (dk_at dksX1_mostSaved_5 12 rfl rfl)
theorem dX1_mostSaved_129 : decode cX1_mostSaved 129 = .ok (.if_icmp .le 8, 3) := dk_164 0 8 (dk_at dksX1_mostSaved_5 13 rfl rfl)
theorem dX1_mostSaved_132 : decode cX1_mostSaved 132 = .ok (.iload 7, 2) := dk_21 7 (dk_at dksX1_mostSaved_5 16 rfl rfl)
theorem dX1_mostSaved_134 : decode cX1_mostSaved 134 = .ok (.goto 5, 3) := dk_167 0 5 (dk_at dksX1_mostSaved_5 18 rfl rfl)
theorem dX1_mostSaved_137 : decode cX1_mostSaved 137 = .ok (.iload 6, 2) := dk_21 6 (dk_at dksX1_mostSaved_5 21 rfl rfl)
theorem dX1_mostSaved_139 : decode cX1_mostSaved 139 = .ok (.istore 6, 2) := dk_54 6 (dk_at dksX1_mostSaved_6 0 rfl rfl)
theorem dX1_mostSaved_141 : decode cX1_mostSaved 141 = .ok (.iinc 7 1, 3) := dk_132 7 1 (dk_at dksX1_mostSaved_6 2 rfl rfl)
theorem dX1_mostSaved_144 : decode cX1_mostSaved 144 = .ok (.goto (-54), 3) := dk_167 255 202 (dk_at dksX1_mostSaved_6 5 rfl rfl)
theorem dX1_mostSaved_147 : decode cX1_mostSaved 147 = .ok (.iload 6, 2) := dk_21 6 (dk_at dksX1_mostSaved_6 8 rfl rfl)
theorem dX1_mostSaved_149 : decode cX1_mostSaved 149 = .ok (.ireturn, 1) := dk_172 (dk_at dksX1_mostSaved_6 10 rfl rfl)
abbrev cX1_addCue : ByteArray := prog_1_method_57_code
def yX1_addCue : MethodName := ⟨RX1, "addCue", "(IIII)I"⟩
def dkwX1_addCue_4 : List UInt8 := [180, 0, 114, 25, 6, 182, 1, 82, 87, 42, 180, 0, 39, 180, 0, 114, 182, 0, 118, 4, 100, 172]
abbrev dktX1_addCue_4 : List UInt8 := dkwX1_addCue_4 ++ []
def dkwX1_addCue_3 : List UInt8 := [187, 0, 128, 89, 27, 28, 183, 1, 77, 58, 6, 25, 6, 29, 21, 4, 182, 1, 79, 42, 180, 0, 39]
abbrev dktX1_addCue_3 : List UInt8 := dkwX1_addCue_3 ++ dktX1_addCue_4
def dkwX1_addCue_2 : List UInt8 := [180, 0, 114, 182, 0, 118, 16, 20, 162, 0, 7, 4, 167, 0, 4, 3, 184, 0, 91, 42, 182, 1, 74]
abbrev dktX1_addCue_2 : List UInt8 := dkwX1_addCue_2 ++ dktX1_addCue_3
def dkwX1_addCue_1 : List UInt8 := [17, 3, 231, 27, 100, 133, 184, 0, 15, 184, 0, 95, 25, 5, 21, 4, 184, 1, 70, 42, 180, 0, 39]
abbrev dktX1_addCue_1 : List UInt8 := dkwX1_addCue_1 ++ dktX1_addCue_2
def dkwX1_addCue_0 : List UInt8 := [42, 29, 182, 0, 144, 58, 5, 27, 133, 9, 20, 1, 68, 184, 0, 15, 184, 0, 95, 28, 133, 10]
abbrev dktX1_addCue_0 : List UInt8 := dkwX1_addCue_0 ++ dktX1_addCue_1
theorem dksX1_addCue_0 : cX1_addCue.data.toList.drop 0 = dktX1_addCue_0 := by decide +kernel
theorem dksX1_addCue_1 : cX1_addCue.data.toList.drop 22 = dktX1_addCue_1 := dk_seg dksX1_addCue_0 22 rfl rfl
theorem dksX1_addCue_2 : cX1_addCue.data.toList.drop 45 = dktX1_addCue_2 := dk_seg dksX1_addCue_1 23 rfl rfl
theorem dksX1_addCue_3 : cX1_addCue.data.toList.drop 68 = dktX1_addCue_3 := dk_seg dksX1_addCue_2 23 rfl rfl
theorem dksX1_addCue_4 : cX1_addCue.data.toList.drop 91 = dktX1_addCue_4 := dk_seg dksX1_addCue_3 23 rfl rfl
theorem dX1_addCue_0 : decode cX1_addCue 0 = .ok (.aload_n 0, 1) := dk_42 (dk_at dksX1_addCue_0 0 rfl rfl)
theorem dX1_addCue_1 : decode cX1_addCue 1 = .ok (.iload_n 3, 1) := dk_29 (dk_at dksX1_addCue_0 1 rfl rfl)
theorem dX1_addCue_2 : decode cX1_addCue 2 = .ok (.invokevirtual 144, 3) := dk_182 0 144 (dk_at dksX1_addCue_0 2 rfl rfl)
theorem dX1_addCue_5 : decode cX1_addCue 5 = .ok (.astore 5, 2) := dk_58 5 (dk_at dksX1_addCue_0 5 rfl rfl)
theorem dX1_addCue_7 : decode cX1_addCue 7 = .ok (.iload_n 1, 1) := dk_27 (dk_at dksX1_addCue_0 7 rfl rfl)
theorem dX1_addCue_8 : decode cX1_addCue 8 = .ok (.i2l, 1) := dk_133 (dk_at dksX1_addCue_0 8 rfl rfl)
theorem dX1_addCue_9 : decode cX1_addCue 9 = .ok (.lconst 0, 1) := dk_9 (dk_at dksX1_addCue_0 9 rfl rfl)
theorem dX1_addCue_10 : decode cX1_addCue 10 = .ok (.ldc2_w 324, 3) := dk_20 1 68 (dk_at dksX1_addCue_0 10 rfl rfl)
theorem dX1_addCue_13 : decode cX1_addCue 13 = .ok (.invokestatic 15, 3) := dk_184 0 15 (dk_at dksX1_addCue_0 13 rfl rfl)
theorem dX1_addCue_16 : decode cX1_addCue 16 = .ok (.invokestatic 95, 3) := dk_184 0 95 (dk_at dksX1_addCue_0 16 rfl rfl)
theorem dX1_addCue_19 : decode cX1_addCue 19 = .ok (.iload_n 2, 1) := dk_28 (dk_at dksX1_addCue_0 19 rfl rfl)
theorem dX1_addCue_20 : decode cX1_addCue 20 = .ok (.i2l, 1) := dk_133 (dk_at dksX1_addCue_0 20 rfl rfl)
theorem dX1_addCue_21 : decode cX1_addCue 21 = .ok (.lconst 1, 1) := dk_10 (dk_at dksX1_addCue_0 21 rfl rfl)
theorem dX1_addCue_22 : decode cX1_addCue 22 = .ok (.sipush 999, 3) := dk_17 3 231 (dk_at dksX1_addCue_1 0 rfl rfl)
theorem dX1_addCue_25 : decode cX1_addCue 25 = .ok (.iload_n 1, 1) := dk_27 (dk_at dksX1_addCue_1 3 rfl rfl)
theorem dX1_addCue_26 : decode cX1_addCue 26 = .ok (.isub, 1) := dk_100 (dk_at dksX1_addCue_1 4 rfl rfl)
theorem dX1_addCue_27 : decode cX1_addCue 27 = .ok (.i2l, 1) := dk_133 (dk_at dksX1_addCue_1 5 rfl rfl)
theorem dX1_addCue_28 : decode cX1_addCue 28 = .ok (.invokestatic 15, 3) := dk_184 0 15 (dk_at dksX1_addCue_1 6 rfl rfl)
theorem dX1_addCue_31 : decode cX1_addCue 31 = .ok (.invokestatic 95, 3) := dk_184 0 95 (dk_at dksX1_addCue_1 9 rfl rfl)
theorem dX1_addCue_34 : decode cX1_addCue 34 = .ok (.aload 5, 2) := dk_25 5 (dk_at dksX1_addCue_1 12 rfl rfl)
theorem dX1_addCue_36 : decode cX1_addCue 36 = .ok (.iload 4, 2) := dk_21 4 (dk_at dksX1_addCue_1 14 rfl rfl)
theorem dX1_addCue_38 : decode cX1_addCue 38 = .ok (.invokestatic 326, 3) := dk_184 1 70 (dk_at dksX1_addCue_1 16 rfl rfl)
theorem dX1_addCue_41 : decode cX1_addCue 41 = .ok (.aload_n 0, 1) := dk_42 (dk_at dksX1_addCue_1 19 rfl rfl)
theorem dX1_addCue_42 : decode cX1_addCue 42 = .ok (.getfield 39, 3) := dk_180 0 39 (dk_at dksX1_addCue_1 20 rfl rfl)
theorem dX1_addCue_45 : decode cX1_addCue 45 = .ok (.getfield 114, 3) := dk_180 0 114 (dk_at dksX1_addCue_2 0 rfl rfl)
theorem dX1_addCue_48 : decode cX1_addCue 48 = .ok (.invokevirtual 118, 3) := dk_182 0 118 (dk_at dksX1_addCue_2 3 rfl rfl)
theorem dX1_addCue_51 : decode cX1_addCue 51 = .ok (.bipush 20, 2) := dk_16 20 (dk_at dksX1_addCue_2 6 rfl rfl)
theorem dX1_addCue_53 : decode cX1_addCue 53 = .ok (.if_icmp .ge 7, 3) := dk_162 0 7 (dk_at dksX1_addCue_2 8 rfl rfl)
theorem dX1_addCue_56 : decode cX1_addCue 56 = .ok (.iconst 1, 1) := dk_4 (dk_at dksX1_addCue_2 11 rfl rfl)
theorem dX1_addCue_57 : decode cX1_addCue 57 = .ok (.goto 4, 3) := dk_167 0 4 (dk_at dksX1_addCue_2 12 rfl rfl)
theorem dX1_addCue_60 : decode cX1_addCue 60 = .ok (.iconst 0, 1) := dk_3 (dk_at dksX1_addCue_2 15 rfl rfl)
theorem dX1_addCue_61 : decode cX1_addCue 61 = .ok (.invokestatic 91, 3) := dk_184 0 91 (dk_at dksX1_addCue_2 16 rfl rfl)
theorem dX1_addCue_64 : decode cX1_addCue 64 = .ok (.aload_n 0, 1) := dk_42 (dk_at dksX1_addCue_2 19 rfl rfl)
theorem dX1_addCue_65 : decode cX1_addCue 65 = .ok (.invokevirtual 330, 3) := dk_182 1 74 (dk_at dksX1_addCue_2 20 rfl rfl)
theorem dX1_addCue_68 : decode cX1_addCue 68 = .ok (.new 128, 3) := dk_187 0 128 (dk_at dksX1_addCue_3 0 rfl rfl)
theorem dX1_addCue_71 : decode cX1_addCue 71 = .ok (.dup, 1) := dk_89 (dk_at dksX1_addCue_3 3 rfl rfl)
theorem dX1_addCue_72 : decode cX1_addCue 72 = .ok (.iload_n 1, 1) := dk_27 (dk_at dksX1_addCue_3 4 rfl rfl)
theorem dX1_addCue_73 : decode cX1_addCue 73 = .ok (.iload_n 2, 1) := dk_28 (dk_at dksX1_addCue_3 5 rfl rfl)
theorem dX1_addCue_74 : decode cX1_addCue 74 = .ok (.invokespecial 333, 3) := dk_183 1 77 (dk_at dksX1_addCue_3 6 rfl rfl)
theorem dX1_addCue_77 : decode cX1_addCue 77 = .ok (.astore 6, 2) := dk_58 6 (dk_at dksX1_addCue_3 9 rfl rfl)
theorem dX1_addCue_79 : decode cX1_addCue 79 = .ok (.aload 6, 2) := dk_25 6 (dk_at dksX1_addCue_3 11 rfl rfl)
theorem dX1_addCue_81 : decode cX1_addCue 81 = .ok (.iload_n 3, 1) := dk_29 (dk_at dksX1_addCue_3 13 rfl rfl)
theorem dX1_addCue_82 : decode cX1_addCue 82 = .ok (.iload 4, 2) := dk_21 4 (dk_at dksX1_addCue_3 14 rfl rfl)
theorem dX1_addCue_84 : decode cX1_addCue 84 = .ok (.invokevirtual 335, 3) := dk_182 1 79 (dk_at dksX1_addCue_3 16 rfl rfl)
theorem dX1_addCue_87 : decode cX1_addCue 87 = .ok (.aload_n 0, 1) := dk_42 (dk_at dksX1_addCue_3 19 rfl rfl)
theorem dX1_addCue_88 : decode cX1_addCue 88 = .ok (.getfield 39, 3) := dk_180 0 39 (dk_at dksX1_addCue_3 20 rfl rfl)
theorem dX1_addCue_91 : decode cX1_addCue 91 = .ok (.getfield 114, 3) := dk_180 0 114 (dk_at dksX1_addCue_4 0 rfl rfl)
theorem dX1_addCue_94 : decode cX1_addCue 94 = .ok (.aload 6, 2) := dk_25 6 (dk_at dksX1_addCue_4 3 rfl rfl)
theorem dX1_addCue_96 : decode cX1_addCue 96 = .ok (.invokevirtual 338, 3) := dk_182 1 82 (dk_at dksX1_addCue_4 5 rfl rfl)
theorem dX1_addCue_99 : decode cX1_addCue 99 = .ok (.pop, 1) := dk_87 (dk_at dksX1_addCue_4 8 rfl rfl)
theorem dX1_addCue_100 : decode cX1_addCue 100 = .ok (.aload_n 0, 1) := dk_42 (dk_at dksX1_addCue_4 9 rfl rfl)
theorem dX1_addCue_101 : decode cX1_addCue 101 = .ok (.getfield 39, 3) := dk_180 0 39 (dk_at dksX1_addCue_4 10 rfl rfl)
theorem dX1_addCue_104 : decode cX1_addCue 104 = .ok (.getfield 114, 3) := dk_180 0 114 (dk_at dksX1_addCue_4 13 rfl rfl)
theorem dX1_addCue_107 : decode cX1_addCue 107 = .ok (.invokevirtual 118, 3) := dk_182 0 118 (dk_at dksX1_addCue_4 16 rfl rfl)
theorem dX1_addCue_110 : decode cX1_addCue 110 = .ok (.iconst 1, 1) := dk_4 (dk_at dksX1_addCue_4 19 rfl rfl)
theorem dX1_addCue_111 : decode cX1_addCue 111 = .ok (.isub, 1) := dk_100 (dk_at dksX1_addCue_4 20 rfl rfl)
theorem dX1_addCue_112 : decode cX1_addCue 112 = .ok (.ireturn, 1) := dk_172 (dk_at dksX1_addCue_4 21 rfl rfl)
abbrev cX1_requirePlace : ByteArray := prog_1_method_19_code
def yX1_requirePlace : MethodName := ⟨RX1, "requirePlace", "(LCameraMoves$Axis;I)V"⟩
def dkwX1_requirePlace_0 : List UInt8 := [27, 133, 42, 180, 0, 157, 133, 42, 180, 0, 160, 133, 184, 0, 15, 184, 0, 95, 177]
abbrev dktX1_requirePlace_0 : List UInt8 := dkwX1_requirePlace_0 ++ []
theorem dksX1_requirePlace_0 : cX1_requirePlace.data.toList.drop 0 = dktX1_requirePlace_0 := by decide +kernel
theorem dX1_requirePlace_0 : decode cX1_requirePlace 0 = .ok (.iload_n 1, 1) := dk_27 (dk_at dksX1_requirePlace_0 0 rfl rfl)
theorem dX1_requirePlace_1 : decode cX1_requirePlace 1 = .ok (.i2l, 1) := dk_133 (dk_at dksX1_requirePlace_0 1 rfl rfl)
theorem dX1_requirePlace_2 : decode cX1_requirePlace 2 = .ok (.aload_n 0, 1) := dk_42 (dk_at dksX1_requirePlace_0 2 rfl rfl)
theorem dX1_requirePlace_3 : decode cX1_requirePlace 3 = .ok (.getfield 157, 3) := dk_180 0 157 (dk_at dksX1_requirePlace_0 3 rfl rfl)
theorem dX1_requirePlace_6 : decode cX1_requirePlace 6 = .ok (.i2l, 1) := dk_133 (dk_at dksX1_requirePlace_0 6 rfl rfl)
theorem dX1_requirePlace_7 : decode cX1_requirePlace 7 = .ok (.aload_n 0, 1) := dk_42 (dk_at dksX1_requirePlace_0 7 rfl rfl)
theorem dX1_requirePlace_8 : decode cX1_requirePlace 8 = .ok (.getfield 160, 3) := dk_180 0 160 (dk_at dksX1_requirePlace_0 8 rfl rfl)
theorem dX1_requirePlace_11 : decode cX1_requirePlace 11 = .ok (.i2l, 1) := dk_133 (dk_at dksX1_requirePlace_0 11 rfl rfl)
theorem dX1_requirePlace_12 : decode cX1_requirePlace 12 = .ok (.invokestatic 15, 3) := dk_184 0 15 (dk_at dksX1_requirePlace_0 12 rfl rfl)
theorem dX1_requirePlace_15 : decode cX1_requirePlace 15 = .ok (.invokestatic 95, 3) := dk_184 0 95 (dk_at dksX1_requirePlace_0 15 rfl rfl)
theorem dX1_requirePlace_18 : decode cX1_requirePlace 18 = .ok (.return_, 1) := dk_177 (dk_at dksX1_requirePlace_0 18 rfl rfl)
abbrev cX1_remember : ByteArray := prog_1_method_9_code
def yX1_remember : MethodName := ⟨RX1, "remember", "()V"⟩
def dkwX1_remember_1 : List UInt8 := [42, 180, 0, 39, 182, 0, 80, 182, 0, 84, 177]
abbrev dktX1_remember_1 : List UInt8 := dkwX1_remember_1 ++ []
def dkwX1_remember_0 : List UInt8 := [42, 180, 0, 53, 182, 0, 72, 16, 10, 160, 0, 11, 42, 180, 0, 53, 182, 0, 76, 87, 42, 180, 0, 53]
abbrev dktX1_remember_0 : List UInt8 := dkwX1_remember_0 ++ dktX1_remember_1
theorem dksX1_remember_0 : cX1_remember.data.toList.drop 0 = dktX1_remember_0 := by decide +kernel
theorem dksX1_remember_1 : cX1_remember.data.toList.drop 24 = dktX1_remember_1 := dk_seg dksX1_remember_0 24 rfl rfl
theorem dX1_remember_0 : decode cX1_remember 0 = .ok (.aload_n 0, 1) := dk_42 (dk_at dksX1_remember_0 0 rfl rfl)
theorem dX1_remember_1 : decode cX1_remember 1 = .ok (.getfield 53, 3) := dk_180 0 53 (dk_at dksX1_remember_0 1 rfl rfl)
theorem dX1_remember_4 : decode cX1_remember 4 = .ok (.invokevirtual 72, 3) := dk_182 0 72 (dk_at dksX1_remember_0 4 rfl rfl)
theorem dX1_remember_7 : decode cX1_remember 7 = .ok (.bipush 10, 2) := dk_16 10 (dk_at dksX1_remember_0 7 rfl rfl)
theorem dX1_remember_9 : decode cX1_remember 9 = .ok (.if_icmp .ne 11, 3) := dk_160 0 11 (dk_at dksX1_remember_0 9 rfl rfl)
theorem dX1_remember_12 : decode cX1_remember 12 = .ok (.aload_n 0, 1) := dk_42 (dk_at dksX1_remember_0 12 rfl rfl)
theorem dX1_remember_13 : decode cX1_remember 13 = .ok (.getfield 53, 3) := dk_180 0 53 (dk_at dksX1_remember_0 13 rfl rfl)
theorem dX1_remember_16 : decode cX1_remember 16 = .ok (.invokevirtual 76, 3) := dk_182 0 76 (dk_at dksX1_remember_0 16 rfl rfl)
theorem dX1_remember_19 : decode cX1_remember 19 = .ok (.pop, 1) := dk_87 (dk_at dksX1_remember_0 19 rfl rfl)
theorem dX1_remember_20 : decode cX1_remember 20 = .ok (.aload_n 0, 1) := dk_42 (dk_at dksX1_remember_0 20 rfl rfl)
theorem dX1_remember_21 : decode cX1_remember 21 = .ok (.getfield 53, 3) := dk_180 0 53 (dk_at dksX1_remember_0 21 rfl rfl)
theorem dX1_remember_24 : decode cX1_remember 24 = .ok (.aload_n 0, 1) := dk_42 (dk_at dksX1_remember_1 0 rfl rfl)
theorem dX1_remember_25 : decode cX1_remember 25 = .ok (.getfield 39, 3) := dk_180 0 39 (dk_at dksX1_remember_1 1 rfl rfl)
theorem dX1_remember_28 : decode cX1_remember 28 = .ok (.invokevirtual 80, 3) := dk_182 0 80 (dk_at dksX1_remember_1 4 rfl rfl)
theorem dX1_remember_31 : decode cX1_remember 31 = .ok (.invokevirtual 84, 3) := dk_182 0 84 (dk_at dksX1_remember_1 7 rfl rfl)
theorem dX1_remember_34 : decode cX1_remember 34 = .ok (.return_, 1) := dk_177 (dk_at dksX1_remember_1 10 rfl rfl)
abbrev cX1_setTarget : ByteArray := prog_1_method_58_code
def yX1_setTarget : MethodName := ⟨RX1, "setTarget", "(III)I"⟩
def dkwX1_setTarget_1 : List UInt8 := [182, 1, 79, 25, 4, 180, 0, 148, 184, 1, 57, 172]
abbrev dktX1_setTarget_1 : List UInt8 := dkwX1_setTarget_1 ++ []
def dkwX1_setTarget_0 : List UInt8 := [42, 27, 182, 0, 140, 58, 4, 42, 28, 182, 0, 144, 29, 184, 1, 70, 42, 182, 1, 74, 25, 4, 28, 29]
abbrev dktX1_setTarget_0 : List UInt8 := dkwX1_setTarget_0 ++ dktX1_setTarget_1
theorem dksX1_setTarget_0 : cX1_setTarget.data.toList.drop 0 = dktX1_setTarget_0 := by decide +kernel
theorem dksX1_setTarget_1 : cX1_setTarget.data.toList.drop 24 = dktX1_setTarget_1 := dk_seg dksX1_setTarget_0 24 rfl rfl
theorem dX1_setTarget_0 : decode cX1_setTarget 0 = .ok (.aload_n 0, 1) := dk_42 (dk_at dksX1_setTarget_0 0 rfl rfl)
theorem dX1_setTarget_1 : decode cX1_setTarget 1 = .ok (.iload_n 1, 1) := dk_27 (dk_at dksX1_setTarget_0 1 rfl rfl)
theorem dX1_setTarget_2 : decode cX1_setTarget 2 = .ok (.invokevirtual 140, 3) := dk_182 0 140 (dk_at dksX1_setTarget_0 2 rfl rfl)
theorem dX1_setTarget_5 : decode cX1_setTarget 5 = .ok (.astore 4, 2) := dk_58 4 (dk_at dksX1_setTarget_0 5 rfl rfl)
theorem dX1_setTarget_7 : decode cX1_setTarget 7 = .ok (.aload_n 0, 1) := dk_42 (dk_at dksX1_setTarget_0 7 rfl rfl)
theorem dX1_setTarget_8 : decode cX1_setTarget 8 = .ok (.iload_n 2, 1) := dk_28 (dk_at dksX1_setTarget_0 8 rfl rfl)
theorem dX1_setTarget_9 : decode cX1_setTarget 9 = .ok (.invokevirtual 144, 3) := dk_182 0 144 (dk_at dksX1_setTarget_0 9 rfl rfl)
theorem dX1_setTarget_12 : decode cX1_setTarget 12 = .ok (.iload_n 3, 1) := dk_29 (dk_at dksX1_setTarget_0 12 rfl rfl)
theorem dX1_setTarget_13 : decode cX1_setTarget 13 = .ok (.invokestatic 326, 3) := dk_184 1 70 (dk_at dksX1_setTarget_0 13 rfl rfl)
theorem dX1_setTarget_16 : decode cX1_setTarget 16 = .ok (.aload_n 0, 1) := dk_42 (dk_at dksX1_setTarget_0 16 rfl rfl)
theorem dX1_setTarget_17 : decode cX1_setTarget 17 = .ok (.invokevirtual 330, 3) := dk_182 1 74 (dk_at dksX1_setTarget_0 17 rfl rfl)
theorem dX1_setTarget_20 : decode cX1_setTarget 20 = .ok (.aload 4, 2) := dk_25 4 (dk_at dksX1_setTarget_0 20 rfl rfl)
theorem dX1_setTarget_22 : decode cX1_setTarget 22 = .ok (.iload_n 2, 1) := dk_28 (dk_at dksX1_setTarget_0 22 rfl rfl)
theorem dX1_setTarget_23 : decode cX1_setTarget 23 = .ok (.iload_n 3, 1) := dk_29 (dk_at dksX1_setTarget_0 23 rfl rfl)
theorem dX1_setTarget_24 : decode cX1_setTarget 24 = .ok (.invokevirtual 335, 3) := dk_182 1 79 (dk_at dksX1_setTarget_1 0 rfl rfl)
theorem dX1_setTarget_27 : decode cX1_setTarget 27 = .ok (.aload 4, 2) := dk_25 4 (dk_at dksX1_setTarget_1 3 rfl rfl)
theorem dX1_setTarget_29 : decode cX1_setTarget 29 = .ok (.getfield 148, 3) := dk_180 0 148 (dk_at dksX1_setTarget_1 5 rfl rfl)
theorem dX1_setTarget_32 : decode cX1_setTarget 32 = .ok (.invokestatic 313, 3) := dk_184 1 57 (dk_at dksX1_setTarget_1 8 rfl rfl)
theorem dX1_setTarget_35 : decode cX1_setTarget 35 = .ok (.ireturn, 1) := dk_172 (dk_at dksX1_setTarget_1 11 rfl rfl)
abbrev cX1_removeTarget : ByteArray := prog_1_method_59_code
def yX1_removeTarget : MethodName := ⟨RX1, "removeTarget", "(II)I"⟩
def dkwX1_removeTarget_1 : List UInt8 := [181, 0, 148, 45, 180, 0, 182, 28, 46, 172]
abbrev dktX1_removeTarget_1 : List UInt8 := dkwX1_removeTarget_1 ++ []
def dkwX1_removeTarget_0 : List UInt8 := [42, 27, 28, 182, 0, 178, 78, 42, 182, 1, 74, 45, 89, 180, 0, 148, 4, 28, 120, 2, 130, 126]
abbrev dktX1_removeTarget_0 : List UInt8 := dkwX1_removeTarget_0 ++ dktX1_removeTarget_1
theorem dksX1_removeTarget_0 : cX1_removeTarget.data.toList.drop 0 = dktX1_removeTarget_0 := by decide +kernel
theorem dksX1_removeTarget_1 : cX1_removeTarget.data.toList.drop 22 = dktX1_removeTarget_1 := dk_seg dksX1_removeTarget_0 22 rfl rfl
theorem dX1_removeTarget_0 : decode cX1_removeTarget 0 = .ok (.aload_n 0, 1) := dk_42 (dk_at dksX1_removeTarget_0 0 rfl rfl)
theorem dX1_removeTarget_1 : decode cX1_removeTarget 1 = .ok (.iload_n 1, 1) := dk_27 (dk_at dksX1_removeTarget_0 1 rfl rfl)
theorem dX1_removeTarget_2 : decode cX1_removeTarget 2 = .ok (.iload_n 2, 1) := dk_28 (dk_at dksX1_removeTarget_0 2 rfl rfl)
theorem dX1_removeTarget_3 : decode cX1_removeTarget 3 = .ok (.invokevirtual 178, 3) := dk_182 0 178 (dk_at dksX1_removeTarget_0 3 rfl rfl)
theorem dX1_removeTarget_6 : decode cX1_removeTarget 6 = .ok (.astore_n 3, 1) := dk_78 (dk_at dksX1_removeTarget_0 6 rfl rfl)
theorem dX1_removeTarget_7 : decode cX1_removeTarget 7 = .ok (.aload_n 0, 1) := dk_42 (dk_at dksX1_removeTarget_0 7 rfl rfl)
theorem dX1_removeTarget_8 : decode cX1_removeTarget 8 = .ok (.invokevirtual 330, 3) := dk_182 1 74 (dk_at dksX1_removeTarget_0 8 rfl rfl)
theorem dX1_removeTarget_11 : decode cX1_removeTarget 11 = .ok (.aload_n 3, 1) := dk_45 (dk_at dksX1_removeTarget_0 11 rfl rfl)
theorem dX1_removeTarget_12 : decode cX1_removeTarget 12 = .ok (.dup, 1) := dk_89 (dk_at dksX1_removeTarget_0 12 rfl rfl)
theorem dX1_removeTarget_13 : decode cX1_removeTarget 13 = .ok (.getfield 148, 3) := dk_180 0 148 (dk_at dksX1_removeTarget_0 13 rfl rfl)
theorem dX1_removeTarget_16 : decode cX1_removeTarget 16 = .ok (.iconst 1, 1) := dk_4 (dk_at dksX1_removeTarget_0 16 rfl rfl)
theorem dX1_removeTarget_17 : decode cX1_removeTarget 17 = .ok (.iload_n 2, 1) := dk_28 (dk_at dksX1_removeTarget_0 17 rfl rfl)
theorem dX1_removeTarget_18 : decode cX1_removeTarget 18 = .ok (.ishl, 1) := dk_120 (dk_at dksX1_removeTarget_0 18 rfl rfl)
theorem dX1_removeTarget_19 : decode cX1_removeTarget 19 = .ok (.iconst (-1), 1) := dk_2 (dk_at dksX1_removeTarget_0 19 rfl rfl)
theorem dX1_removeTarget_20 : decode cX1_removeTarget 20 = .ok (.ixor, 1) := dk_130 (dk_at dksX1_removeTarget_0 20 rfl rfl)
theorem dX1_removeTarget_21 : decode cX1_removeTarget 21 = .ok (.iand, 1) := dk_126 (dk_at dksX1_removeTarget_0 21 rfl rfl)
theorem dX1_removeTarget_22 : decode cX1_removeTarget 22 = .ok (.putfield 148, 3) := dk_181 0 148 (dk_at dksX1_removeTarget_1 0 rfl rfl)
theorem dX1_removeTarget_25 : decode cX1_removeTarget 25 = .ok (.aload_n 3, 1) := dk_45 (dk_at dksX1_removeTarget_1 3 rfl rfl)
theorem dX1_removeTarget_26 : decode cX1_removeTarget 26 = .ok (.getfield 182, 3) := dk_180 0 182 (dk_at dksX1_removeTarget_1 4 rfl rfl)
theorem dX1_removeTarget_29 : decode cX1_removeTarget 29 = .ok (.iload_n 2, 1) := dk_28 (dk_at dksX1_removeTarget_1 7 rfl rfl)
theorem dX1_removeTarget_30 : decode cX1_removeTarget 30 = .ok (.iaload, 1) := dk_46 (dk_at dksX1_removeTarget_1 8 rfl rfl)
theorem dX1_removeTarget_31 : decode cX1_removeTarget 31 = .ok (.ireturn, 1) := dk_172 (dk_at dksX1_removeTarget_1 9 rfl rfl)
abbrev cX1_removeCue : ByteArray := prog_1_method_60_code
def yX1_removeCue : MethodName := ⟨RX1, "removeCue", "(I)I"⟩
def dkwX1_removeCue_1 : List UInt8 := [78, 42, 180, 0, 39, 180, 0, 114, 182, 0, 118, 172]
abbrev dktX1_removeCue_1 : List UInt8 := dkwX1_removeCue_1 ++ []
def dkwX1_removeCue_0 : List UInt8 := [42, 27, 182, 0, 140, 77, 42, 182, 1, 74, 42, 180, 0, 39, 180, 0, 114, 27, 182, 1, 65, 192, 0, 128]
abbrev dktX1_removeCue_0 : List UInt8 := dkwX1_removeCue_0 ++ dktX1_removeCue_1
theorem dksX1_removeCue_0 : cX1_removeCue.data.toList.drop 0 = dktX1_removeCue_0 := by decide +kernel
theorem dksX1_removeCue_1 : cX1_removeCue.data.toList.drop 24 = dktX1_removeCue_1 := dk_seg dksX1_removeCue_0 24 rfl rfl
theorem dX1_removeCue_0 : decode cX1_removeCue 0 = .ok (.aload_n 0, 1) := dk_42 (dk_at dksX1_removeCue_0 0 rfl rfl)
theorem dX1_removeCue_1 : decode cX1_removeCue 1 = .ok (.iload_n 1, 1) := dk_27 (dk_at dksX1_removeCue_0 1 rfl rfl)
theorem dX1_removeCue_2 : decode cX1_removeCue 2 = .ok (.invokevirtual 140, 3) := dk_182 0 140 (dk_at dksX1_removeCue_0 2 rfl rfl)
theorem dX1_removeCue_5 : decode cX1_removeCue 5 = .ok (.astore_n 2, 1) := dk_77 (dk_at dksX1_removeCue_0 5 rfl rfl)
theorem dX1_removeCue_6 : decode cX1_removeCue 6 = .ok (.aload_n 0, 1) := dk_42 (dk_at dksX1_removeCue_0 6 rfl rfl)
theorem dX1_removeCue_7 : decode cX1_removeCue 7 = .ok (.invokevirtual 330, 3) := dk_182 1 74 (dk_at dksX1_removeCue_0 7 rfl rfl)
theorem dX1_removeCue_10 : decode cX1_removeCue 10 = .ok (.aload_n 0, 1) := dk_42 (dk_at dksX1_removeCue_0 10 rfl rfl)
theorem dX1_removeCue_11 : decode cX1_removeCue 11 = .ok (.getfield 39, 3) := dk_180 0 39 (dk_at dksX1_removeCue_0 11 rfl rfl)
theorem dX1_removeCue_14 : decode cX1_removeCue 14 = .ok (.getfield 114, 3) := dk_180 0 114 (dk_at dksX1_removeCue_0 14 rfl rfl)
theorem dX1_removeCue_17 : decode cX1_removeCue 17 = .ok (.iload_n 1, 1) := dk_27 (dk_at dksX1_removeCue_0 17 rfl rfl)
theorem dX1_removeCue_18 : decode cX1_removeCue 18 = .ok (.invokevirtual 321, 3) := dk_182 1 65 (dk_at dksX1_removeCue_0 18 rfl rfl)
theorem dX1_removeCue_21 : decode cX1_removeCue 21 = .ok (.checkcast 128, 3) := dk_192 0 128 (dk_at dksX1_removeCue_0 21 rfl rfl)
theorem dX1_removeCue_24 : decode cX1_removeCue 24 = .ok (.astore_n 3, 1) := dk_78 (dk_at dksX1_removeCue_1 0 rfl rfl)
theorem dX1_removeCue_25 : decode cX1_removeCue 25 = .ok (.aload_n 0, 1) := dk_42 (dk_at dksX1_removeCue_1 1 rfl rfl)
theorem dX1_removeCue_26 : decode cX1_removeCue 26 = .ok (.getfield 39, 3) := dk_180 0 39 (dk_at dksX1_removeCue_1 2 rfl rfl)
theorem dX1_removeCue_29 : decode cX1_removeCue 29 = .ok (.getfield 114, 3) := dk_180 0 114 (dk_at dksX1_removeCue_1 5 rfl rfl)
theorem dX1_removeCue_32 : decode cX1_removeCue 32 = .ok (.invokevirtual 118, 3) := dk_182 0 118 (dk_at dksX1_removeCue_1 8 rfl rfl)
theorem dX1_removeCue_35 : decode cX1_removeCue 35 = .ok (.ireturn, 1) := dk_172 (dk_at dksX1_removeCue_1 11 rfl rfl)
abbrev cX1_moveCue : ByteArray := prog_1_method_61_code
def yX1_moveCue : MethodName := ⟨RX1, "moveCue", "(II)I"⟩
def dkwX1_moveCue_1 : List UInt8 := [42, 182, 1, 74, 45, 180, 0, 174, 54, 4, 45, 28, 181, 0, 174, 21, 4, 172]
abbrev dktX1_moveCue_1 : List UInt8 := dkwX1_moveCue_1 ++ []
def dkwX1_moveCue_0 : List UInt8 := [42, 27, 182, 0, 140, 78, 28, 133, 9, 17, 3, 231, 45, 180, 0, 177, 100, 133, 184, 0, 15, 184, 0, 95]
abbrev dktX1_moveCue_0 : List UInt8 := dkwX1_moveCue_0 ++ dktX1_moveCue_1
theorem dksX1_moveCue_0 : cX1_moveCue.data.toList.drop 0 = dktX1_moveCue_0 := by decide +kernel
theorem dksX1_moveCue_1 : cX1_moveCue.data.toList.drop 24 = dktX1_moveCue_1 := dk_seg dksX1_moveCue_0 24 rfl rfl
theorem dX1_moveCue_0 : decode cX1_moveCue 0 = .ok (.aload_n 0, 1) := dk_42 (dk_at dksX1_moveCue_0 0 rfl rfl)
theorem dX1_moveCue_1 : decode cX1_moveCue 1 = .ok (.iload_n 1, 1) := dk_27 (dk_at dksX1_moveCue_0 1 rfl rfl)
theorem dX1_moveCue_2 : decode cX1_moveCue 2 = .ok (.invokevirtual 140, 3) := dk_182 0 140 (dk_at dksX1_moveCue_0 2 rfl rfl)
theorem dX1_moveCue_5 : decode cX1_moveCue 5 = .ok (.astore_n 3, 1) := dk_78 (dk_at dksX1_moveCue_0 5 rfl rfl)
theorem dX1_moveCue_6 : decode cX1_moveCue 6 = .ok (.iload_n 2, 1) := dk_28 (dk_at dksX1_moveCue_0 6 rfl rfl)
theorem dX1_moveCue_7 : decode cX1_moveCue 7 = .ok (.i2l, 1) := dk_133 (dk_at dksX1_moveCue_0 7 rfl rfl)
theorem dX1_moveCue_8 : decode cX1_moveCue 8 = .ok (.lconst 0, 1) := dk_9 (dk_at dksX1_moveCue_0 8 rfl rfl)
theorem dX1_moveCue_9 : decode cX1_moveCue 9 = .ok (.sipush 999, 3) := dk_17 3 231 (dk_at dksX1_moveCue_0 9 rfl rfl)
theorem dX1_moveCue_12 : decode cX1_moveCue 12 = .ok (.aload_n 3, 1) := dk_45 (dk_at dksX1_moveCue_0 12 rfl rfl)
theorem dX1_moveCue_13 : decode cX1_moveCue 13 = .ok (.getfield 177, 3) := dk_180 0 177 (dk_at dksX1_moveCue_0 13 rfl rfl)
theorem dX1_moveCue_16 : decode cX1_moveCue 16 = .ok (.isub, 1) := dk_100 (dk_at dksX1_moveCue_0 16 rfl rfl)
theorem dX1_moveCue_17 : decode cX1_moveCue 17 = .ok (.i2l, 1) := dk_133 (dk_at dksX1_moveCue_0 17 rfl rfl)
theorem dX1_moveCue_18 : decode cX1_moveCue 18 = .ok (.invokestatic 15, 3) := dk_184 0 15 (dk_at dksX1_moveCue_0 18 rfl rfl)
theorem dX1_moveCue_21 : decode cX1_moveCue 21 = .ok (.invokestatic 95, 3) := dk_184 0 95 (dk_at dksX1_moveCue_0 21 rfl rfl)
theorem dX1_moveCue_24 : decode cX1_moveCue 24 = .ok (.aload_n 0, 1) := dk_42 (dk_at dksX1_moveCue_1 0 rfl rfl)
theorem dX1_moveCue_25 : decode cX1_moveCue 25 = .ok (.invokevirtual 330, 3) := dk_182 1 74 (dk_at dksX1_moveCue_1 1 rfl rfl)
theorem dX1_moveCue_28 : decode cX1_moveCue 28 = .ok (.aload_n 3, 1) := dk_45 (dk_at dksX1_moveCue_1 4 rfl rfl)
theorem dX1_moveCue_29 : decode cX1_moveCue 29 = .ok (.getfield 174, 3) := dk_180 0 174 (dk_at dksX1_moveCue_1 5 rfl rfl)
theorem dX1_moveCue_32 : decode cX1_moveCue 32 = .ok (.istore 4, 2) := dk_54 4 (dk_at dksX1_moveCue_1 8 rfl rfl)
theorem dX1_moveCue_34 : decode cX1_moveCue 34 = .ok (.aload_n 3, 1) := dk_45 (dk_at dksX1_moveCue_1 10 rfl rfl)
theorem dX1_moveCue_35 : decode cX1_moveCue 35 = .ok (.iload_n 2, 1) := dk_28 (dk_at dksX1_moveCue_1 11 rfl rfl)
theorem dX1_moveCue_36 : decode cX1_moveCue 36 = .ok (.putfield 174, 3) := dk_181 0 174 (dk_at dksX1_moveCue_1 12 rfl rfl)
theorem dX1_moveCue_39 : decode cX1_moveCue 39 = .ok (.iload 4, 2) := dk_21 4 (dk_at dksX1_moveCue_1 15 rfl rfl)
theorem dX1_moveCue_41 : decode cX1_moveCue 41 = .ok (.ireturn, 1) := dk_172 (dk_at dksX1_moveCue_1 17 rfl rfl)
abbrev cX1_setLength : ByteArray := prog_1_method_62_code
def yX1_setLength : MethodName := ⟨RX1, "setLength", "(II)I"⟩
def dkwX1_setLength_1 : List UInt8 := [42, 182, 1, 74, 45, 180, 0, 177, 54, 4, 45, 28, 181, 0, 177, 21, 4, 172]
abbrev dktX1_setLength_1 : List UInt8 := dkwX1_setLength_1 ++ []
def dkwX1_setLength_0 : List UInt8 := [42, 27, 182, 0, 140, 78, 28, 133, 10, 17, 3, 231, 45, 180, 0, 174, 100, 133, 184, 0, 15, 184, 0, 95]
abbrev dktX1_setLength_0 : List UInt8 := dkwX1_setLength_0 ++ dktX1_setLength_1
theorem dksX1_setLength_0 : cX1_setLength.data.toList.drop 0 = dktX1_setLength_0 := by decide +kernel
theorem dksX1_setLength_1 : cX1_setLength.data.toList.drop 24 = dktX1_setLength_1 := dk_seg dksX1_setLength_0 24 rfl rfl
theorem dX1_setLength_0 : decode cX1_setLength 0 = .ok (.aload_n 0, 1) := dk_42 (dk_at dksX1_setLength_0 0 rfl rfl)
theorem dX1_setLength_1 : decode cX1_setLength 1 = .ok (.iload_n 1, 1) := dk_27 (dk_at dksX1_setLength_0 1 rfl rfl)
theorem dX1_setLength_2 : decode cX1_setLength 2 = .ok (.invokevirtual 140, 3) := dk_182 0 140 (dk_at dksX1_setLength_0 2 rfl rfl)
theorem dX1_setLength_5 : decode cX1_setLength 5 = .ok (.astore_n 3, 1) := dk_78 (dk_at dksX1_setLength_0 5 rfl rfl)
theorem dX1_setLength_6 : decode cX1_setLength 6 = .ok (.iload_n 2, 1) := dk_28 (dk_at dksX1_setLength_0 6 rfl rfl)
theorem dX1_setLength_7 : decode cX1_setLength 7 = .ok (.i2l, 1) := dk_133 (dk_at dksX1_setLength_0 7 rfl rfl)
theorem dX1_setLength_8 : decode cX1_setLength 8 = .ok (.lconst 1, 1) := dk_10 (dk_at dksX1_setLength_0 8 rfl rfl)
theorem dX1_setLength_9 : decode cX1_setLength 9 = .ok (.sipush 999, 3) := dk_17 3 231 (dk_at dksX1_setLength_0 9 rfl rfl)
theorem dX1_setLength_12 : decode cX1_setLength 12 = .ok (.aload_n 3, 1) := dk_45 (dk_at dksX1_setLength_0 12 rfl rfl)
theorem dX1_setLength_13 : decode cX1_setLength 13 = .ok (.getfield 174, 3) := dk_180 0 174 (dk_at dksX1_setLength_0 13 rfl rfl)
theorem dX1_setLength_16 : decode cX1_setLength 16 = .ok (.isub, 1) := dk_100 (dk_at dksX1_setLength_0 16 rfl rfl)
theorem dX1_setLength_17 : decode cX1_setLength 17 = .ok (.i2l, 1) := dk_133 (dk_at dksX1_setLength_0 17 rfl rfl)
theorem dX1_setLength_18 : decode cX1_setLength 18 = .ok (.invokestatic 15, 3) := dk_184 0 15 (dk_at dksX1_setLength_0 18 rfl rfl)
theorem dX1_setLength_21 : decode cX1_setLength 21 = .ok (.invokestatic 95, 3) := dk_184 0 95 (dk_at dksX1_setLength_0 21 rfl rfl)
theorem dX1_setLength_24 : decode cX1_setLength 24 = .ok (.aload_n 0, 1) := dk_42 (dk_at dksX1_setLength_1 0 rfl rfl)
theorem dX1_setLength_25 : decode cX1_setLength 25 = .ok (.invokevirtual 330, 3) := dk_182 1 74 (dk_at dksX1_setLength_1 1 rfl rfl)
theorem dX1_setLength_28 : decode cX1_setLength 28 = .ok (.aload_n 3, 1) := dk_45 (dk_at dksX1_setLength_1 4 rfl rfl)
theorem dX1_setLength_29 : decode cX1_setLength 29 = .ok (.getfield 177, 3) := dk_180 0 177 (dk_at dksX1_setLength_1 5 rfl rfl)
theorem dX1_setLength_32 : decode cX1_setLength 32 = .ok (.istore 4, 2) := dk_54 4 (dk_at dksX1_setLength_1 8 rfl rfl)
theorem dX1_setLength_34 : decode cX1_setLength 34 = .ok (.aload_n 3, 1) := dk_45 (dk_at dksX1_setLength_1 10 rfl rfl)
theorem dX1_setLength_35 : decode cX1_setLength 35 = .ok (.iload_n 2, 1) := dk_28 (dk_at dksX1_setLength_1 11 rfl rfl)
theorem dX1_setLength_36 : decode cX1_setLength 36 = .ok (.putfield 177, 3) := dk_181 0 177 (dk_at dksX1_setLength_1 12 rfl rfl)
theorem dX1_setLength_39 : decode cX1_setLength 39 = .ok (.iload 4, 2) := dk_21 4 (dk_at dksX1_setLength_1 15 rfl rfl)
theorem dX1_setLength_41 : decode cX1_setLength 41 = .ok (.ireturn, 1) := dk_172 (dk_at dksX1_setLength_1 17 rfl rfl)
abbrev cX1_fit : ByteArray := prog_1_method_63_code
def yX1_fit : MethodName := ⟨RX1, "fit", "(I)I"⟩
def dkwX1_fit_1 : List UInt8 := [4, 167, 0, 4, 3, 184, 0, 91, 42, 182, 1, 74, 44, 29, 181, 0, 177, 29, 172]
abbrev dktX1_fit_1 : List UInt8 := dkwX1_fit_1 ++ []
def dkwX1_fit_0 : List UInt8 := [42, 27, 182, 0, 140, 77, 42, 27, 182, 0, 240, 62, 29, 17, 3, 231, 44, 180, 0, 174, 100, 163, 0, 7]
abbrev dktX1_fit_0 : List UInt8 := dkwX1_fit_0 ++ dktX1_fit_1
theorem dksX1_fit_0 : cX1_fit.data.toList.drop 0 = dktX1_fit_0 := by decide +kernel
theorem dksX1_fit_1 : cX1_fit.data.toList.drop 24 = dktX1_fit_1 := dk_seg dksX1_fit_0 24 rfl rfl
theorem dX1_fit_0 : decode cX1_fit 0 = .ok (.aload_n 0, 1) := dk_42 (dk_at dksX1_fit_0 0 rfl rfl)
theorem dX1_fit_1 : decode cX1_fit 1 = .ok (.iload_n 1, 1) := dk_27 (dk_at dksX1_fit_0 1 rfl rfl)
theorem dX1_fit_2 : decode cX1_fit 2 = .ok (.invokevirtual 140, 3) := dk_182 0 140 (dk_at dksX1_fit_0 2 rfl rfl)
theorem dX1_fit_5 : decode cX1_fit 5 = .ok (.astore_n 2, 1) := dk_77 (dk_at dksX1_fit_0 5 rfl rfl)
theorem dX1_fit_6 : decode cX1_fit 6 = .ok (.aload_n 0, 1) := dk_42 (dk_at dksX1_fit_0 6 rfl rfl)
theorem dX1_fit_7 : decode cX1_fit 7 = .ok (.iload_n 1, 1) := dk_27 (dk_at dksX1_fit_0 7 rfl rfl)
theorem dX1_fit_8 : decode cX1_fit 8 = .ok (.invokevirtual 240, 3) := dk_182 0 240 (dk_at dksX1_fit_0 8 rfl rfl)
theorem dX1_fit_11 : decode cX1_fit 11 = .ok (.istore_n 3, 1) := dk_62 (dk_at dksX1_fit_0 11 rfl rfl)
theorem dX1_fit_12 : decode cX1_fit 12 = .ok (.iload_n 3, 1) := dk_29 (dk_at dksX1_fit_0 12 rfl rfl)
theorem dX1_fit_13 : decode cX1_fit 13 = .ok (.sipush 999, 3) := dk_17 3 231 (dk_at dksX1_fit_0 13 rfl rfl)
theorem dX1_fit_16 : decode cX1_fit 16 = .ok (.aload_n 2, 1) := dk_44 (dk_at dksX1_fit_0 16 rfl rfl)
theorem dX1_fit_17 : decode cX1_fit 17 = .ok (.getfield 174, 3) := dk_180 0 174 (dk_at dksX1_fit_0 17 rfl rfl)
theorem dX1_fit_20 : decode cX1_fit 20 = .ok (.isub, 1) := dk_100 (dk_at dksX1_fit_0 20 rfl rfl)
theorem dX1_fit_21 : decode cX1_fit 21 = .ok (.if_icmp .gt 7, 3) := dk_163 0 7 (dk_at dksX1_fit_0 21 rfl rfl)
theorem dX1_fit_24 : decode cX1_fit 24 = .ok (.iconst 1, 1) := dk_4 (dk_at dksX1_fit_1 0 rfl rfl)
theorem dX1_fit_25 : decode cX1_fit 25 = .ok (.goto 4, 3) := dk_167 0 4 (dk_at dksX1_fit_1 1 rfl rfl)
theorem dX1_fit_28 : decode cX1_fit 28 = .ok (.iconst 0, 1) := dk_3 (dk_at dksX1_fit_1 4 rfl rfl)
theorem dX1_fit_29 : decode cX1_fit 29 = .ok (.invokestatic 91, 3) := dk_184 0 91 (dk_at dksX1_fit_1 5 rfl rfl)
theorem dX1_fit_32 : decode cX1_fit 32 = .ok (.aload_n 0, 1) := dk_42 (dk_at dksX1_fit_1 8 rfl rfl)
theorem dX1_fit_33 : decode cX1_fit 33 = .ok (.invokevirtual 330, 3) := dk_182 1 74 (dk_at dksX1_fit_1 9 rfl rfl)
theorem dX1_fit_36 : decode cX1_fit 36 = .ok (.aload_n 2, 1) := dk_44 (dk_at dksX1_fit_1 12 rfl rfl)
theorem dX1_fit_37 : decode cX1_fit 37 = .ok (.iload_n 3, 1) := dk_29 (dk_at dksX1_fit_1 13 rfl rfl)
theorem dX1_fit_38 : decode cX1_fit 38 = .ok (.putfield 177, 3) := dk_181 0 177 (dk_at dksX1_fit_1 14 rfl rfl)
theorem dX1_fit_41 : decode cX1_fit 41 = .ok (.iload_n 3, 1) := dk_29 (dk_at dksX1_fit_1 17 rfl rfl)
theorem dX1_fit_42 : decode cX1_fit 42 = .ok (.ireturn, 1) := dk_172 (dk_at dksX1_fit_1 18 rfl rfl)
abbrev cX1_setLimits : ByteArray := prog_1_method_64_code
def yX1_setLimits : MethodName := ⟨RX1, "setLimits", "(III)I"⟩
def dkwX1_setLimits_2 : List UInt8 := [181, 0, 165, 25, 4, 29, 181, 0, 168, 42, 182, 0, 221, 3, 182, 0, 233, 172]
abbrev dktX1_setLimits_2 : List UInt8 := dkwX1_setLimits_2 ++ []
def dkwX1_setLimits_1 : List UInt8 := [20, 1, 88, 184, 0, 15, 153, 0, 7, 4, 167, 0, 4, 3, 184, 0, 95, 42, 182, 1, 74, 25, 4, 28]
abbrev dktX1_setLimits_1 : List UInt8 := dkwX1_setLimits_1 ++ dktX1_setLimits_2
def dkwX1_setLimits_0 : List UInt8 := [42, 27, 182, 0, 144, 58, 4, 28, 133, 10, 20, 1, 86, 184, 0, 15, 153, 0, 19, 29, 133, 10]
abbrev dktX1_setLimits_0 : List UInt8 := dkwX1_setLimits_0 ++ dktX1_setLimits_1
theorem dksX1_setLimits_0 : cX1_setLimits.data.toList.drop 0 = dktX1_setLimits_0 := by decide +kernel
theorem dksX1_setLimits_1 : cX1_setLimits.data.toList.drop 22 = dktX1_setLimits_1 := dk_seg dksX1_setLimits_0 22 rfl rfl
theorem dksX1_setLimits_2 : cX1_setLimits.data.toList.drop 46 = dktX1_setLimits_2 := dk_seg dksX1_setLimits_1 24 rfl rfl
theorem dX1_setLimits_0 : decode cX1_setLimits 0 = .ok (.aload_n 0, 1) := dk_42 (dk_at dksX1_setLimits_0 0 rfl rfl)
theorem dX1_setLimits_1 : decode cX1_setLimits 1 = .ok (.iload_n 1, 1) := dk_27 (dk_at dksX1_setLimits_0 1 rfl rfl)
theorem dX1_setLimits_2 : decode cX1_setLimits 2 = .ok (.invokevirtual 144, 3) := dk_182 0 144 (dk_at dksX1_setLimits_0 2 rfl rfl)
theorem dX1_setLimits_5 : decode cX1_setLimits 5 = .ok (.astore 4, 2) := dk_58 4 (dk_at dksX1_setLimits_0 5 rfl rfl)
theorem dX1_setLimits_7 : decode cX1_setLimits 7 = .ok (.iload_n 2, 1) := dk_28 (dk_at dksX1_setLimits_0 7 rfl rfl)
theorem dX1_setLimits_8 : decode cX1_setLimits 8 = .ok (.i2l, 1) := dk_133 (dk_at dksX1_setLimits_0 8 rfl rfl)
theorem dX1_setLimits_9 : decode cX1_setLimits 9 = .ok (.lconst 1, 1) := dk_10 (dk_at dksX1_setLimits_0 9 rfl rfl)
theorem dX1_setLimits_10 : decode cX1_setLimits 10 = .ok (.ldc2_w 342, 3) := dk_20 1 86 (dk_at dksX1_setLimits_0 10 rfl rfl)
theorem dX1_setLimits_13 : decode cX1_setLimits 13 = .ok (.invokestatic 15, 3) := dk_184 0 15 (dk_at dksX1_setLimits_0 13 rfl rfl)
theorem dX1_setLimits_16 : decode cX1_setLimits 16 = .ok (.ifCond .eq 19, 3) := dk_153 0 19 (dk_at dksX1_setLimits_0 16 rfl rfl)
theorem dX1_setLimits_19 : decode cX1_setLimits 19 = .ok (.iload_n 3, 1) := dk_29 (dk_at dksX1_setLimits_0 19 rfl rfl)
theorem dX1_setLimits_20 : decode cX1_setLimits 20 = .ok (.i2l, 1) := dk_133 (dk_at dksX1_setLimits_0 20 rfl rfl)
theorem dX1_setLimits_21 : decode cX1_setLimits 21 = .ok (.lconst 1, 1) := dk_10 (dk_at dksX1_setLimits_0 21 rfl rfl)
theorem dX1_setLimits_22 : decode cX1_setLimits 22 = .ok (.ldc2_w 344, 3) := dk_20 1 88 (dk_at dksX1_setLimits_1 0 rfl rfl)
theorem dX1_setLimits_25 : decode cX1_setLimits 25 = .ok (.invokestatic 15, 3) := dk_184 0 15 (dk_at dksX1_setLimits_1 3 rfl rfl)
theorem dX1_setLimits_28 : decode cX1_setLimits 28 = .ok (.ifCond .eq 7, 3) := dk_153 0 7 (dk_at dksX1_setLimits_1 6 rfl rfl)
theorem dX1_setLimits_31 : decode cX1_setLimits 31 = .ok (.iconst 1, 1) := dk_4 (dk_at dksX1_setLimits_1 9 rfl rfl)
theorem dX1_setLimits_32 : decode cX1_setLimits 32 = .ok (.goto 4, 3) := dk_167 0 4 (dk_at dksX1_setLimits_1 10 rfl rfl)
theorem dX1_setLimits_35 : decode cX1_setLimits 35 = .ok (.iconst 0, 1) := dk_3 (dk_at dksX1_setLimits_1 13 rfl rfl)
theorem dX1_setLimits_36 : decode cX1_setLimits 36 = .ok (.invokestatic 95, 3) := dk_184 0 95 (dk_at dksX1_setLimits_1 14 rfl rfl)
theorem dX1_setLimits_39 : decode cX1_setLimits 39 = .ok (.aload_n 0, 1) := dk_42 (dk_at dksX1_setLimits_1 17 rfl rfl)
theorem dX1_setLimits_40 : decode cX1_setLimits 40 = .ok (.invokevirtual 330, 3) := dk_182 1 74 (dk_at dksX1_setLimits_1 18 rfl rfl)
theorem dX1_setLimits_43 : decode cX1_setLimits 43 = .ok (.aload 4, 2) := dk_25 4 (dk_at dksX1_setLimits_1 21 rfl rfl)
theorem dX1_setLimits_45 : decode cX1_setLimits 45 = .ok (.iload_n 2, 1) := dk_28 (dk_at dksX1_setLimits_1 23 rfl rfl)
theorem dX1_setLimits_46 : decode cX1_setLimits 46 = .ok (.putfield 165, 3) := dk_181 0 165 (dk_at dksX1_setLimits_2 0 rfl rfl)
theorem dX1_setLimits_49 : decode cX1_setLimits 49 = .ok (.aload 4, 2) := dk_25 4 (dk_at dksX1_setLimits_2 3 rfl rfl)
theorem dX1_setLimits_51 : decode cX1_setLimits 51 = .ok (.iload_n 3, 1) := dk_29 (dk_at dksX1_setLimits_2 5 rfl rfl)
theorem dX1_setLimits_52 : decode cX1_setLimits 52 = .ok (.putfield 168, 3) := dk_181 0 168 (dk_at dksX1_setLimits_2 6 rfl rfl)
theorem dX1_setLimits_55 : decode cX1_setLimits 55 = .ok (.aload_n 0, 1) := dk_42 (dk_at dksX1_setLimits_2 9 rfl rfl)
theorem dX1_setLimits_56 : decode cX1_setLimits 56 = .ok (.invokevirtual 221, 3) := dk_182 0 221 (dk_at dksX1_setLimits_2 10 rfl rfl)
theorem dX1_setLimits_59 : decode cX1_setLimits 59 = .ok (.iconst 0, 1) := dk_3 (dk_at dksX1_setLimits_2 13 rfl rfl)
theorem dX1_setLimits_60 : decode cX1_setLimits 60 = .ok (.invokevirtual 233, 3) := dk_182 0 233 (dk_at dksX1_setLimits_2 14 rfl rfl)
theorem dX1_setLimits_63 : decode cX1_setLimits 63 = .ok (.ireturn, 1) := dk_172 (dk_at dksX1_setLimits_2 17 rfl rfl)
abbrev cX1_addWall : ByteArray := prog_1_method_66_code
def yX1_addWall : MethodName := ⟨RX1, "addWall", "(IIIIII)I"⟩
def dkwX1_addWall_4 : List UInt8 := [182, 1, 82, 87, 42, 180, 0, 39, 180, 0, 135, 182, 0, 118, 4, 100, 172]
abbrev dktX1_addWall_4 : List UInt8 := dkwX1_addWall_4 ++ []
def dkwX1_addWall_3 : List UInt8 := [180, 0, 39, 180, 0, 135, 187, 0, 138, 89, 27, 28, 29, 21, 4, 21, 5, 21, 6, 183, 1, 97]
abbrev dktX1_addWall_3 : List UInt8 := dkwX1_addWall_3 ++ dktX1_addWall_4
def dkwX1_addWall_2 : List UInt8 := [180, 0, 135, 182, 0, 118, 16, 6, 162, 0, 7, 4, 167, 0, 4, 3, 184, 0, 91, 42, 182, 1, 74, 42]
abbrev dktX1_addWall_2 : List UInt8 := dkwX1_addWall_2 ++ dktX1_addWall_3
def dkwX1_addWall_1 : List UInt8 := [167, 0, 4, 3, 184, 0, 95, 28, 29, 184, 1, 94, 21, 5, 21, 6, 184, 1, 94, 42, 180, 0, 39]
abbrev dktX1_addWall_1 : List UInt8 := dkwX1_addWall_1 ++ dktX1_addWall_2
def dkwX1_addWall_0 : List UInt8 := [42, 27, 182, 0, 144, 58, 7, 42, 21, 4, 182, 0, 144, 58, 8, 27, 21, 4, 159, 0, 7, 4]
abbrev dktX1_addWall_0 : List UInt8 := dkwX1_addWall_0 ++ dktX1_addWall_1
theorem dksX1_addWall_0 : cX1_addWall.data.toList.drop 0 = dktX1_addWall_0 := by decide +kernel
theorem dksX1_addWall_1 : cX1_addWall.data.toList.drop 22 = dktX1_addWall_1 := dk_seg dksX1_addWall_0 22 rfl rfl
theorem dksX1_addWall_2 : cX1_addWall.data.toList.drop 45 = dktX1_addWall_2 := dk_seg dksX1_addWall_1 23 rfl rfl
theorem dksX1_addWall_3 : cX1_addWall.data.toList.drop 69 = dktX1_addWall_3 := dk_seg dksX1_addWall_2 24 rfl rfl
theorem dksX1_addWall_4 : cX1_addWall.data.toList.drop 91 = dktX1_addWall_4 := dk_seg dksX1_addWall_3 22 rfl rfl
theorem dX1_addWall_0 : decode cX1_addWall 0 = .ok (.aload_n 0, 1) := dk_42 (dk_at dksX1_addWall_0 0 rfl rfl)
theorem dX1_addWall_1 : decode cX1_addWall 1 = .ok (.iload_n 1, 1) := dk_27 (dk_at dksX1_addWall_0 1 rfl rfl)
theorem dX1_addWall_2 : decode cX1_addWall 2 = .ok (.invokevirtual 144, 3) := dk_182 0 144 (dk_at dksX1_addWall_0 2 rfl rfl)
theorem dX1_addWall_5 : decode cX1_addWall 5 = .ok (.astore 7, 2) := dk_58 7 (dk_at dksX1_addWall_0 5 rfl rfl)
theorem dX1_addWall_7 : decode cX1_addWall 7 = .ok (.aload_n 0, 1) := dk_42 (dk_at dksX1_addWall_0 7 rfl rfl)
theorem dX1_addWall_8 : decode cX1_addWall 8 = .ok (.iload 4, 2) := dk_21 4 (dk_at dksX1_addWall_0 8 rfl rfl)
theorem dX1_addWall_10 : decode cX1_addWall 10 = .ok (.invokevirtual 144, 3) := dk_182 0 144 (dk_at dksX1_addWall_0 10 rfl rfl)
theorem dX1_addWall_13 : decode cX1_addWall 13 = .ok (.astore 8, 2) := dk_58 8 (dk_at dksX1_addWall_0 13 rfl rfl)
theorem dX1_addWall_15 : decode cX1_addWall 15 = .ok (.iload_n 1, 1) := dk_27 (dk_at dksX1_addWall_0 15 rfl rfl)
theorem dX1_addWall_16 : decode cX1_addWall 16 = .ok (.iload 4, 2) := dk_21 4 (dk_at dksX1_addWall_0 16 rfl rfl)
theorem dX1_addWall_18 : decode cX1_addWall 18 = .ok (.if_icmp .eq 7, 3) := dk_159 0 7 (dk_at dksX1_addWall_0 18 rfl rfl)
theorem dX1_addWall_21 : decode cX1_addWall 21 = .ok (.iconst 1, 1) := dk_4 (dk_at dksX1_addWall_0 21 rfl rfl)
theorem dX1_addWall_22 : decode cX1_addWall 22 = .ok (.goto 4, 3) := dk_167 0 4 (dk_at dksX1_addWall_1 0 rfl rfl)
theorem dX1_addWall_25 : decode cX1_addWall 25 = .ok (.iconst 0, 1) := dk_3 (dk_at dksX1_addWall_1 3 rfl rfl)
theorem dX1_addWall_26 : decode cX1_addWall 26 = .ok (.invokestatic 95, 3) := dk_184 0 95 (dk_at dksX1_addWall_1 4 rfl rfl)
theorem dX1_addWall_29 : decode cX1_addWall 29 = .ok (.iload_n 2, 1) := dk_28 (dk_at dksX1_addWall_1 7 rfl rfl)
theorem dX1_addWall_30 : decode cX1_addWall 30 = .ok (.iload_n 3, 1) := dk_29 (dk_at dksX1_addWall_1 8 rfl rfl)
theorem dX1_addWall_31 : decode cX1_addWall 31 = .ok (.invokestatic 350, 3) := dk_184 1 94 (dk_at dksX1_addWall_1 9 rfl rfl)
theorem dX1_addWall_34 : decode cX1_addWall 34 = .ok (.iload 5, 2) := dk_21 5 (dk_at dksX1_addWall_1 12 rfl rfl)
theorem dX1_addWall_36 : decode cX1_addWall 36 = .ok (.iload 6, 2) := dk_21 6 (dk_at dksX1_addWall_1 14 rfl rfl)
theorem dX1_addWall_38 : decode cX1_addWall 38 = .ok (.invokestatic 350, 3) := dk_184 1 94 (dk_at dksX1_addWall_1 16 rfl rfl)
theorem dX1_addWall_41 : decode cX1_addWall 41 = .ok (.aload_n 0, 1) := dk_42 (dk_at dksX1_addWall_1 19 rfl rfl)
theorem dX1_addWall_42 : decode cX1_addWall 42 = .ok (.getfield 39, 3) := dk_180 0 39 (dk_at dksX1_addWall_1 20 rfl rfl)
theorem dX1_addWall_45 : decode cX1_addWall 45 = .ok (.getfield 135, 3) := dk_180 0 135 (dk_at dksX1_addWall_2 0 rfl rfl)
theorem dX1_addWall_48 : decode cX1_addWall 48 = .ok (.invokevirtual 118, 3) := dk_182 0 118 (dk_at dksX1_addWall_2 3 rfl rfl)
theorem dX1_addWall_51 : decode cX1_addWall 51 = .ok (.bipush 6, 2) := dk_16 6 (dk_at dksX1_addWall_2 6 rfl rfl)
theorem dX1_addWall_53 : decode cX1_addWall 53 = .ok (.if_icmp .ge 7, 3) := dk_162 0 7 (dk_at dksX1_addWall_2 8 rfl rfl)
theorem dX1_addWall_56 : decode cX1_addWall 56 = .ok (.iconst 1, 1) := dk_4 (dk_at dksX1_addWall_2 11 rfl rfl)
theorem dX1_addWall_57 : decode cX1_addWall 57 = .ok (.goto 4, 3) := dk_167 0 4 (dk_at dksX1_addWall_2 12 rfl rfl)
theorem dX1_addWall_60 : decode cX1_addWall 60 = .ok (.iconst 0, 1) := dk_3 (dk_at dksX1_addWall_2 15 rfl rfl)
theorem dX1_addWall_61 : decode cX1_addWall 61 = .ok (.invokestatic 91, 3) := dk_184 0 91 (dk_at dksX1_addWall_2 16 rfl rfl)
theorem dX1_addWall_64 : decode cX1_addWall 64 = .ok (.aload_n 0, 1) := dk_42 (dk_at dksX1_addWall_2 19 rfl rfl)
theorem dX1_addWall_65 : decode cX1_addWall 65 = .ok (.invokevirtual 330, 3) := dk_182 1 74 (dk_at dksX1_addWall_2 20 rfl rfl)
theorem dX1_addWall_68 : decode cX1_addWall 68 = .ok (.aload_n 0, 1) := dk_42 (dk_at dksX1_addWall_2 23 rfl rfl)
theorem dX1_addWall_69 : decode cX1_addWall 69 = .ok (.getfield 39, 3) := dk_180 0 39 (dk_at dksX1_addWall_3 0 rfl rfl)
theorem dX1_addWall_72 : decode cX1_addWall 72 = .ok (.getfield 135, 3) := dk_180 0 135 (dk_at dksX1_addWall_3 3 rfl rfl)
theorem dX1_addWall_75 : decode cX1_addWall 75 = .ok (.new 138, 3) := dk_187 0 138 (dk_at dksX1_addWall_3 6 rfl rfl)
theorem dX1_addWall_78 : decode cX1_addWall 78 = .ok (.dup, 1) := dk_89 (dk_at dksX1_addWall_3 9 rfl rfl)
theorem dX1_addWall_79 : decode cX1_addWall 79 = .ok (.iload_n 1, 1) := dk_27 (dk_at dksX1_addWall_3 10 rfl rfl)
theorem dX1_addWall_80 : decode cX1_addWall 80 = .ok (.iload_n 2, 1) := dk_28 (dk_at dksX1_addWall_3 11 rfl rfl)
theorem dX1_addWall_81 : decode cX1_addWall 81 = .ok (.iload_n 3, 1) := dk_29 (dk_at dksX1_addWall_3 12 rfl rfl)
theorem dX1_addWall_82 : decode cX1_addWall 82 = .ok (.iload 4, 2) := dk_21 4 (dk_at dksX1_addWall_3 13 rfl rfl)
theorem dX1_addWall_84 : decode cX1_addWall 84 = .ok (.iload 5, 2) := dk_21 5 (dk_at dksX1_addWall_3 15 rfl rfl)
theorem dX1_addWall_86 : decode cX1_addWall 86 = .ok (.iload 6, 2) := dk_21 6 (dk_at dksX1_addWall_3 17 rfl rfl)
theorem dX1_addWall_88 : decode cX1_addWall 88 = .ok (.invokespecial 353, 3) := dk_183 1 97 (dk_at dksX1_addWall_3 19 rfl rfl)
theorem dX1_addWall_91 : decode cX1_addWall 91 = .ok (.invokevirtual 338, 3) := dk_182 1 82 (dk_at dksX1_addWall_4 0 rfl rfl)
theorem dX1_addWall_94 : decode cX1_addWall 94 = .ok (.pop, 1) := dk_87 (dk_at dksX1_addWall_4 3 rfl rfl)
theorem dX1_addWall_95 : decode cX1_addWall 95 = .ok (.aload_n 0, 1) := dk_42 (dk_at dksX1_addWall_4 4 rfl rfl)
theorem dX1_addWall_96 : decode cX1_addWall 96 = .ok (.getfield 39, 3) := dk_180 0 39 (dk_at dksX1_addWall_4 5 rfl rfl)
theorem dX1_addWall_99 : decode cX1_addWall 99 = .ok (.getfield 135, 3) := dk_180 0 135 (dk_at dksX1_addWall_4 8 rfl rfl)
theorem dX1_addWall_102 : decode cX1_addWall 102 = .ok (.invokevirtual 118, 3) := dk_182 0 118 (dk_at dksX1_addWall_4 11 rfl rfl)
theorem dX1_addWall_105 : decode cX1_addWall 105 = .ok (.iconst 1, 1) := dk_4 (dk_at dksX1_addWall_4 14 rfl rfl)
theorem dX1_addWall_106 : decode cX1_addWall 106 = .ok (.isub, 1) := dk_100 (dk_at dksX1_addWall_4 15 rfl rfl)
theorem dX1_addWall_107 : decode cX1_addWall 107 = .ok (.ireturn, 1) := dk_172 (dk_at dksX1_addWall_4 16 rfl rfl)
abbrev cX1_requireRange : ByteArray := prog_1_method_65_code
def yX1_requireRange : MethodName := ⟨RX1, "requireRange", "(II)V"⟩
def dkwX1_requireRange_1 : List UInt8 := [153, 0, 7, 4, 167, 0, 4, 3, 184, 0, 95, 177]
abbrev dktX1_requireRange_1 : List UInt8 := dkwX1_requireRange_1 ++ []
def dkwX1_requireRange_0 : List UInt8 := [26, 133, 20, 1, 90, 20, 1, 92, 184, 0, 15, 153, 0, 20, 27, 133, 26, 133, 20, 1, 92, 184, 0, 15]
abbrev dktX1_requireRange_0 : List UInt8 := dkwX1_requireRange_0 ++ dktX1_requireRange_1
theorem dksX1_requireRange_0 : cX1_requireRange.data.toList.drop 0 = dktX1_requireRange_0 := by decide +kernel
theorem dksX1_requireRange_1 : cX1_requireRange.data.toList.drop 24 = dktX1_requireRange_1 := dk_seg dksX1_requireRange_0 24 rfl rfl
theorem dX1_requireRange_0 : decode cX1_requireRange 0 = .ok (.iload_n 0, 1) := dk_26 (dk_at dksX1_requireRange_0 0 rfl rfl)
theorem dX1_requireRange_1 : decode cX1_requireRange 1 = .ok (.i2l, 1) := dk_133 (dk_at dksX1_requireRange_0 1 rfl rfl)
theorem dX1_requireRange_2 : decode cX1_requireRange 2 = .ok (.ldc2_w 346, 3) := dk_20 1 90 (dk_at dksX1_requireRange_0 2 rfl rfl)
theorem dX1_requireRange_5 : decode cX1_requireRange 5 = .ok (.ldc2_w 348, 3) := dk_20 1 92 (dk_at dksX1_requireRange_0 5 rfl rfl)
theorem dX1_requireRange_8 : decode cX1_requireRange 8 = .ok (.invokestatic 15, 3) := dk_184 0 15 (dk_at dksX1_requireRange_0 8 rfl rfl)
theorem dX1_requireRange_11 : decode cX1_requireRange 11 = .ok (.ifCond .eq 20, 3) := dk_153 0 20 (dk_at dksX1_requireRange_0 11 rfl rfl)
theorem dX1_requireRange_14 : decode cX1_requireRange 14 = .ok (.iload_n 1, 1) := dk_27 (dk_at dksX1_requireRange_0 14 rfl rfl)
theorem dX1_requireRange_15 : decode cX1_requireRange 15 = .ok (.i2l, 1) := dk_133 (dk_at dksX1_requireRange_0 15 rfl rfl)
theorem dX1_requireRange_16 : decode cX1_requireRange 16 = .ok (.iload_n 0, 1) := dk_26 (dk_at dksX1_requireRange_0 16 rfl rfl)
theorem dX1_requireRange_17 : decode cX1_requireRange 17 = .ok (.i2l, 1) := dk_133 (dk_at dksX1_requireRange_0 17 rfl rfl)
theorem dX1_requireRange_18 : decode cX1_requireRange 18 = .ok (.ldc2_w 348, 3) := dk_20 1 92 (dk_at dksX1_requireRange_0 18 rfl rfl)
theorem dX1_requireRange_21 : decode cX1_requireRange 21 = .ok (.invokestatic 15, 3) := dk_184 0 15 (dk_at dksX1_requireRange_0 21 rfl rfl)
theorem dX1_requireRange_24 : decode cX1_requireRange 24 = .ok (.ifCond .eq 7, 3) := dk_153 0 7 (dk_at dksX1_requireRange_1 0 rfl rfl)
theorem dX1_requireRange_27 : decode cX1_requireRange 27 = .ok (.iconst 1, 1) := dk_4 (dk_at dksX1_requireRange_1 3 rfl rfl)
theorem dX1_requireRange_28 : decode cX1_requireRange 28 = .ok (.goto 4, 3) := dk_167 0 4 (dk_at dksX1_requireRange_1 4 rfl rfl)
theorem dX1_requireRange_31 : decode cX1_requireRange 31 = .ok (.iconst 0, 1) := dk_3 (dk_at dksX1_requireRange_1 7 rfl rfl)
theorem dX1_requireRange_32 : decode cX1_requireRange 32 = .ok (.invokestatic 95, 3) := dk_184 0 95 (dk_at dksX1_requireRange_1 8 rfl rfl)
theorem dX1_requireRange_35 : decode cX1_requireRange 35 = .ok (.return_, 1) := dk_177 (dk_at dksX1_requireRange_1 11 rfl rfl)
abbrev cX1_removeWall : ByteArray := prog_1_method_67_code
def yX1_removeWall : MethodName := ⟨RX1, "removeWall", "(I)I"⟩
def dkwX1_removeWall_1 : List UInt8 := [78, 42, 180, 0, 39, 180, 0, 135, 182, 0, 118, 172]
abbrev dktX1_removeWall_1 : List UInt8 := dkwX1_removeWall_1 ++ []
def dkwX1_removeWall_0 : List UInt8 := [42, 27, 182, 1, 23, 77, 42, 182, 1, 74, 42, 180, 0, 39, 180, 0, 135, 27, 182, 1, 65, 192, 0, 138]
abbrev dktX1_removeWall_0 : List UInt8 := dkwX1_removeWall_0 ++ dktX1_removeWall_1
theorem dksX1_removeWall_0 : cX1_removeWall.data.toList.drop 0 = dktX1_removeWall_0 := by decide +kernel
theorem dksX1_removeWall_1 : cX1_removeWall.data.toList.drop 24 = dktX1_removeWall_1 := dk_seg dksX1_removeWall_0 24 rfl rfl
theorem dX1_removeWall_0 : decode cX1_removeWall 0 = .ok (.aload_n 0, 1) := dk_42 (dk_at dksX1_removeWall_0 0 rfl rfl)
theorem dX1_removeWall_1 : decode cX1_removeWall 1 = .ok (.iload_n 1, 1) := dk_27 (dk_at dksX1_removeWall_0 1 rfl rfl)
theorem dX1_removeWall_2 : decode cX1_removeWall 2 = .ok (.invokevirtual 279, 3) := dk_182 1 23 (dk_at dksX1_removeWall_0 2 rfl rfl)
theorem dX1_removeWall_5 : decode cX1_removeWall 5 = .ok (.astore_n 2, 1) := dk_77 (dk_at dksX1_removeWall_0 5 rfl rfl)
theorem dX1_removeWall_6 : decode cX1_removeWall 6 = .ok (.aload_n 0, 1) := dk_42 (dk_at dksX1_removeWall_0 6 rfl rfl)
theorem dX1_removeWall_7 : decode cX1_removeWall 7 = .ok (.invokevirtual 330, 3) := dk_182 1 74 (dk_at dksX1_removeWall_0 7 rfl rfl)
theorem dX1_removeWall_10 : decode cX1_removeWall 10 = .ok (.aload_n 0, 1) := dk_42 (dk_at dksX1_removeWall_0 10 rfl rfl)
theorem dX1_removeWall_11 : decode cX1_removeWall 11 = .ok (.getfield 39, 3) := dk_180 0 39 (dk_at dksX1_removeWall_0 11 rfl rfl)
theorem dX1_removeWall_14 : decode cX1_removeWall 14 = .ok (.getfield 135, 3) := dk_180 0 135 (dk_at dksX1_removeWall_0 14 rfl rfl)
theorem dX1_removeWall_17 : decode cX1_removeWall 17 = .ok (.iload_n 1, 1) := dk_27 (dk_at dksX1_removeWall_0 17 rfl rfl)
theorem dX1_removeWall_18 : decode cX1_removeWall 18 = .ok (.invokevirtual 321, 3) := dk_182 1 65 (dk_at dksX1_removeWall_0 18 rfl rfl)
theorem dX1_removeWall_21 : decode cX1_removeWall 21 = .ok (.checkcast 138, 3) := dk_192 0 138 (dk_at dksX1_removeWall_0 21 rfl rfl)
theorem dX1_removeWall_24 : decode cX1_removeWall 24 = .ok (.astore_n 3, 1) := dk_78 (dk_at dksX1_removeWall_1 0 rfl rfl)
theorem dX1_removeWall_25 : decode cX1_removeWall 25 = .ok (.aload_n 0, 1) := dk_42 (dk_at dksX1_removeWall_1 1 rfl rfl)
theorem dX1_removeWall_26 : decode cX1_removeWall 26 = .ok (.getfield 39, 3) := dk_180 0 39 (dk_at dksX1_removeWall_1 2 rfl rfl)
theorem dX1_removeWall_29 : decode cX1_removeWall 29 = .ok (.getfield 135, 3) := dk_180 0 135 (dk_at dksX1_removeWall_1 5 rfl rfl)
theorem dX1_removeWall_32 : decode cX1_removeWall 32 = .ok (.invokevirtual 118, 3) := dk_182 0 118 (dk_at dksX1_removeWall_1 8 rfl rfl)
theorem dX1_removeWall_35 : decode cX1_removeWall 35 = .ok (.ireturn, 1) := dk_172 (dk_at dksX1_removeWall_1 11 rfl rfl)
abbrev cX1_undo : ByteArray := prog_1_method_68_code
def yX1_undo : MethodName := ⟨RX1, "undo", "()I"⟩
def dkwX1_undo_1 : List UInt8 := [182, 1, 104, 192, 0, 29, 181, 0, 39, 42, 180, 0, 53, 182, 0, 72, 172]
abbrev dktX1_undo_1 : List UInt8 := dkwX1_undo_1 ++ []
def dkwX1_undo_0 : List UInt8 := [42, 180, 0, 53, 182, 1, 100, 154, 0, 7, 4, 167, 0, 4, 3, 184, 0, 91, 42, 42, 180, 0, 53]
abbrev dktX1_undo_0 : List UInt8 := dkwX1_undo_0 ++ dktX1_undo_1
theorem dksX1_undo_0 : cX1_undo.data.toList.drop 0 = dktX1_undo_0 := by decide +kernel
theorem dksX1_undo_1 : cX1_undo.data.toList.drop 23 = dktX1_undo_1 := dk_seg dksX1_undo_0 23 rfl rfl
theorem dX1_undo_0 : decode cX1_undo 0 = .ok (.aload_n 0, 1) := dk_42 (dk_at dksX1_undo_0 0 rfl rfl)
theorem dX1_undo_1 : decode cX1_undo 1 = .ok (.getfield 53, 3) := dk_180 0 53 (dk_at dksX1_undo_0 1 rfl rfl)
theorem dX1_undo_4 : decode cX1_undo 4 = .ok (.invokevirtual 356, 3) := dk_182 1 100 (dk_at dksX1_undo_0 4 rfl rfl)
theorem dX1_undo_7 : decode cX1_undo 7 = .ok (.ifCond .ne 7, 3) := dk_154 0 7 (dk_at dksX1_undo_0 7 rfl rfl)
theorem dX1_undo_10 : decode cX1_undo 10 = .ok (.iconst 1, 1) := dk_4 (dk_at dksX1_undo_0 10 rfl rfl)
theorem dX1_undo_11 : decode cX1_undo 11 = .ok (.goto 4, 3) := dk_167 0 4 (dk_at dksX1_undo_0 11 rfl rfl)
theorem dX1_undo_14 : decode cX1_undo 14 = .ok (.iconst 0, 1) := dk_3 (dk_at dksX1_undo_0 14 rfl rfl)
theorem dX1_undo_15 : decode cX1_undo 15 = .ok (.invokestatic 91, 3) := dk_184 0 91 (dk_at dksX1_undo_0 15 rfl rfl)
theorem dX1_undo_18 : decode cX1_undo 18 = .ok (.aload_n 0, 1) := dk_42 (dk_at dksX1_undo_0 18 rfl rfl)
theorem dX1_undo_19 : decode cX1_undo 19 = .ok (.aload_n 0, 1) := dk_42 (dk_at dksX1_undo_0 19 rfl rfl)
theorem dX1_undo_20 : decode cX1_undo 20 = .ok (.getfield 53, 3) := dk_180 0 53 (dk_at dksX1_undo_0 20 rfl rfl)
theorem dX1_undo_23 : decode cX1_undo 23 = .ok (.invokevirtual 360, 3) := dk_182 1 104 (dk_at dksX1_undo_1 0 rfl rfl)
theorem dX1_undo_26 : decode cX1_undo 26 = .ok (.checkcast 29, 3) := dk_192 0 29 (dk_at dksX1_undo_1 3 rfl rfl)
theorem dX1_undo_29 : decode cX1_undo 29 = .ok (.putfield 39, 3) := dk_181 0 39 (dk_at dksX1_undo_1 6 rfl rfl)
theorem dX1_undo_32 : decode cX1_undo 32 = .ok (.aload_n 0, 1) := dk_42 (dk_at dksX1_undo_1 9 rfl rfl)
theorem dX1_undo_33 : decode cX1_undo 33 = .ok (.getfield 53, 3) := dk_180 0 53 (dk_at dksX1_undo_1 10 rfl rfl)
theorem dX1_undo_36 : decode cX1_undo 36 = .ok (.invokevirtual 72, 3) := dk_182 0 72 (dk_at dksX1_undo_1 13 rfl rfl)
theorem dX1_undo_39 : decode cX1_undo 39 = .ok (.ireturn, 1) := dk_172 (dk_at dksX1_undo_1 16 rfl rfl)
abbrev cX1_format : ByteArray := prog_1_method_69_code
def yX1_format : MethodName := ⟨RX1, "format", "(I)I"⟩
def dkwX1_format_7 : List UInt8 := [172]
abbrev dktX1_format_7 : List UInt8 := dkwX1_format_7 ++ []
def dkwX1_format_6 : List UInt8 := [182, 1, 21, 153, 0, 14, 42, 180, 0, 68, 19, 1, 128, 182, 1, 114, 87, 42, 180, 0, 68, 182, 1, 130]
abbrev dktX1_format_6 : List UInt8 := dkwX1_format_6 ++ dktX1_format_7
def dkwX1_format_5 : List UInt8 := [16, 45, 182, 1, 122, 21, 4, 184, 0, 202, 182, 1, 125, 87, 132, 3, 1, 167, 255, 141, 44, 27]
abbrev dktX1_format_5 : List UInt8 := dkwX1_format_5 ++ dktX1_format_6
def dkwX1_format_4 : List UInt8 := [182, 0, 253, 54, 4, 21, 4, 153, 0, 31, 42, 180, 0, 68, 21, 4, 158, 0, 8, 16, 43, 167, 0, 5]
abbrev dktX1_format_4 : List UInt8 := dkwX1_format_4 ++ dktX1_format_5
def dkwX1_format_3 : List UInt8 := [182, 1, 114, 16, 32, 182, 1, 122, 44, 180, 0, 249, 29, 50, 27, 46, 182, 1, 125, 87, 44, 29, 27]
abbrev dktX1_format_3 : List UInt8 := dkwX1_format_3 ++ dktX1_format_4
def dkwX1_format_2 : List UInt8 := [19, 1, 112, 182, 1, 114, 42, 180, 0, 39, 180, 0, 119, 29, 182, 0, 122, 192, 0, 126, 180, 1, 118]
abbrev dktX1_format_2 : List UInt8 := dkwX1_format_2 ++ dktX1_format_3
def dkwX1_format_1 : List UInt8 := [180, 0, 119, 182, 0, 118, 162, 0, 107, 42, 180, 0, 68, 29, 154, 0, 9, 19, 1, 110, 167, 0, 6]
abbrev dktX1_format_1 : List UInt8 := dkwX1_format_1 ++ dktX1_format_2
def dkwX1_format_0 : List UInt8 := [27, 184, 0, 243, 42, 182, 0, 246, 77, 42, 180, 0, 68, 3, 182, 1, 107, 3, 62, 29, 42, 180, 0, 39]
abbrev dktX1_format_0 : List UInt8 := dkwX1_format_0 ++ dktX1_format_1
theorem dksX1_format_0 : cX1_format.data.toList.drop 0 = dktX1_format_0 := by decide +kernel
theorem dksX1_format_1 : cX1_format.data.toList.drop 24 = dktX1_format_1 := dk_seg dksX1_format_0 24 rfl rfl
theorem dksX1_format_2 : cX1_format.data.toList.drop 47 = dktX1_format_2 := dk_seg dksX1_format_1 23 rfl rfl
theorem dksX1_format_3 : cX1_format.data.toList.drop 70 = dktX1_format_3 := dk_seg dksX1_format_2 23 rfl rfl
theorem dksX1_format_4 : cX1_format.data.toList.drop 93 = dktX1_format_4 := dk_seg dksX1_format_3 23 rfl rfl
theorem dksX1_format_5 : cX1_format.data.toList.drop 117 = dktX1_format_5 := dk_seg dksX1_format_4 24 rfl rfl
theorem dksX1_format_6 : cX1_format.data.toList.drop 139 = dktX1_format_6 := dk_seg dksX1_format_5 22 rfl rfl
theorem dksX1_format_7 : cX1_format.data.toList.drop 163 = dktX1_format_7 := dk_seg dksX1_format_6 24 rfl rfl
theorem dX1_format_0 : decode cX1_format 0 = .ok (.iload_n 1, 1) := dk_27 (dk_at dksX1_format_0 0 rfl rfl)
theorem dX1_format_1 : decode cX1_format 1 = .ok (.invokestatic 243, 3) := dk_184 0 243 (dk_at dksX1_format_0 1 rfl rfl)
theorem dX1_format_4 : decode cX1_format 4 = .ok (.aload_n 0, 1) := dk_42 (dk_at dksX1_format_0 4 rfl rfl)
theorem dX1_format_5 : decode cX1_format 5 = .ok (.invokevirtual 246, 3) := dk_182 0 246 (dk_at dksX1_format_0 5 rfl rfl)
theorem dX1_format_8 : decode cX1_format 8 = .ok (.astore_n 2, 1) := dk_77 (dk_at dksX1_format_0 8 rfl rfl)
theorem dX1_format_9 : decode cX1_format 9 = .ok (.aload_n 0, 1) := dk_42 (dk_at dksX1_format_0 9 rfl rfl)
theorem dX1_format_10 : decode cX1_format 10 = .ok (.getfield 68, 3) := dk_180 0 68 (dk_at dksX1_format_0 10 rfl rfl)
theorem dX1_format_13 : decode cX1_format 13 = .ok (.iconst 0, 1) := dk_3 (dk_at dksX1_format_0 13 rfl rfl)
theorem dX1_format_14 : decode cX1_format 14 = .ok (.invokevirtual 363, 3) := dk_182 1 107 (dk_at dksX1_format_0 14 rfl rfl)
theorem dX1_format_17 : decode cX1_format 17 = .ok (.iconst 0, 1) := dk_3 (dk_at dksX1_format_0 17 rfl rfl)
theorem dX1_format_18 : decode cX1_format 18 = .ok (.istore_n 3, 1) := dk_62 (dk_at dksX1_format_0 18 rfl rfl)
theorem dX1_format_19 : decode cX1_format 19 = .ok (.iload_n 3, 1) := dk_29 (dk_at dksX1_format_0 19 rfl rfl)
theorem dX1_format_20 : decode cX1_format 20 = .ok (.aload_n 0, 1) := dk_42 (dk_at dksX1_format_0 20 rfl rfl)
theorem dX1_format_21 : decode cX1_format 21 = .ok (.getfield 39, 3) := dk_180 0 39 (dk_at dksX1_format_0 21 rfl rfl)
theorem dX1_format_24 : decode cX1_format 24 = .ok (.getfield 119, 3) := dk_180 0 119 (dk_at dksX1_format_1 0 rfl rfl)
theorem dX1_format_27 : decode cX1_format 27 = .ok (.invokevirtual 118, 3) := dk_182 0 118 (dk_at dksX1_format_1 3 rfl rfl)
theorem dX1_format_30 : decode cX1_format 30 = .ok (.if_icmp .ge 107, 3) := dk_162 0 107 (dk_at dksX1_format_1 6 rfl rfl)
theorem dX1_format_33 : decode cX1_format 33 = .ok (.aload_n 0, 1) := dk_42 (dk_at dksX1_format_1 9 rfl rfl)
theorem dX1_format_34 : decode cX1_format 34 = .ok (.getfield 68, 3) := dk_180 0 68 (dk_at dksX1_format_1 10 rfl rfl)
theorem dX1_format_37 : decode cX1_format 37 = .ok (.iload_n 3, 1) := dk_29 (dk_at dksX1_format_1 13 rfl rfl)
theorem dX1_format_38 : decode cX1_format 38 = .ok (.ifCond .ne 9, 3) := dk_154 0 9 (dk_at dksX1_format_1 14 rfl rfl)
theorem dX1_format_41 : decode cX1_format 41 = .ok (.ldc_w 366, 3) := dk_19 1 110 (dk_at dksX1_format_1 17 rfl rfl)
theorem dX1_format_44 : decode cX1_format 44 = .ok (.goto 6, 3) := dk_167 0 6 (dk_at dksX1_format_1 20 rfl rfl)
theorem dX1_format_47 : decode cX1_format 47 = .ok (.ldc_w 368, 3) := dk_19 1 112 (dk_at dksX1_format_2 0 rfl rfl)
theorem dX1_format_50 : decode cX1_format 50 = .ok (.invokevirtual 370, 3) := dk_182 1 114 (dk_at dksX1_format_2 3 rfl rfl)
theorem dX1_format_53 : decode cX1_format 53 = .ok (.aload_n 0, 1) := dk_42 (dk_at dksX1_format_2 6 rfl rfl)
theorem dX1_format_54 : decode cX1_format 54 = .ok (.getfield 39, 3) := dk_180 0 39 (dk_at dksX1_format_2 7 rfl rfl)
theorem dX1_format_57 : decode cX1_format 57 = .ok (.getfield 119, 3) := dk_180 0 119 (dk_at dksX1_format_2 10 rfl rfl)
theorem dX1_format_60 : decode cX1_format 60 = .ok (.iload_n 3, 1) := dk_29 (dk_at dksX1_format_2 13 rfl rfl)
theorem dX1_format_61 : decode cX1_format 61 = .ok (.invokevirtual 122, 3) := dk_182 0 122 (dk_at dksX1_format_2 14 rfl rfl)
theorem dX1_format_64 : decode cX1_format 64 = .ok (.checkcast 126, 3) := dk_192 0 126 (dk_at dksX1_format_2 17 rfl rfl)
theorem dX1_format_67 : decode cX1_format 67 = .ok (.getfield 374, 3) := dk_180 1 118 (dk_at dksX1_format_2 20 rfl rfl)
theorem dX1_format_70 : decode cX1_format 70 = .ok (.invokevirtual 370, 3) := dk_182 1 114 (dk_at dksX1_format_3 0 rfl rfl)
theorem dX1_format_73 : decode cX1_format 73 = .ok (.bipush 32, 2) := dk_16 32 (dk_at dksX1_format_3 3 rfl rfl)
theorem dX1_format_75 : decode cX1_format 75 = .ok (.invokevirtual 378, 3) := dk_182 1 122 (dk_at dksX1_format_3 5 rfl rfl)
theorem dX1_format_78 : decode cX1_format 78 = .ok (.aload_n 2, 1) := dk_44 (dk_at dksX1_format_3 8 rfl rfl)
theorem dX1_format_79 : decode cX1_format 79 = .ok (.getfield 249, 3) := dk_180 0 249 (dk_at dksX1_format_3 9 rfl rfl)
theorem dX1_format_82 : decode cX1_format 82 = .ok (.iload_n 3, 1) := dk_29 (dk_at dksX1_format_3 12 rfl rfl)
theorem dX1_format_83 : decode cX1_format 83 = .ok (.aaload, 1) := dk_50 (dk_at dksX1_format_3 13 rfl rfl)
theorem dX1_format_84 : decode cX1_format 84 = .ok (.iload_n 1, 1) := dk_27 (dk_at dksX1_format_3 14 rfl rfl)
theorem dX1_format_85 : decode cX1_format 85 = .ok (.iaload, 1) := dk_46 (dk_at dksX1_format_3 15 rfl rfl)
theorem dX1_format_86 : decode cX1_format 86 = .ok (.invokevirtual 381, 3) := dk_182 1 125 (dk_at dksX1_format_3 16 rfl rfl)
theorem dX1_format_89 : decode cX1_format 89 = .ok (.pop, 1) := dk_87 (dk_at dksX1_format_3 19 rfl rfl)
theorem dX1_format_90 : decode cX1_format 90 = .ok (.aload_n 2, 1) := dk_44 (dk_at dksX1_format_3 20 rfl rfl)
theorem dX1_format_91 : decode cX1_format 91 = .ok (.iload_n 3, 1) := dk_29 (dk_at dksX1_format_3 21 rfl rfl)
theorem dX1_format_92 : decode cX1_format 92 = .ok (.iload_n 1, 1) := dk_27 (dk_at dksX1_format_3 22 rfl rfl)
theorem dX1_format_93 : decode cX1_format 93 = .ok (.invokevirtual 253, 3) := dk_182 0 253 (dk_at dksX1_format_4 0 rfl rfl)
theorem dX1_format_96 : decode cX1_format 96 = .ok (.istore 4, 2) := dk_54 4 (dk_at dksX1_format_4 3 rfl rfl)
theorem dX1_format_98 : decode cX1_format 98 = .ok (.iload 4, 2) := dk_21 4 (dk_at dksX1_format_4 5 rfl rfl)
theorem dX1_format_100 : decode cX1_format 100 = .ok (.ifCond .eq 31, 3) := dk_153 0 31 (dk_at dksX1_format_4 7 rfl rfl)
theorem dX1_format_103 : decode cX1_format 103 = .ok (.aload_n 0, 1) := dk_42 (dk_at dksX1_format_4 10 rfl rfl)
theorem dX1_format_104 : decode cX1_format 104 = .ok (.getfield 68, 3) := dk_180 0 68 (dk_at dksX1_format_4 11 rfl rfl)
theorem dX1_format_107 : decode cX1_format 107 = .ok (.iload 4, 2) := dk_21 4 (dk_at dksX1_format_4 14 rfl rfl)
theorem dX1_format_109 : decode cX1_format 109 = .ok (.ifCond .le 8, 3) := dk_158 0 8 (dk_at dksX1_format_4 16 rfl rfl)
theorem dX1_format_112 : decode cX1_format 112 = .ok (.bipush 43, 2) := dk_16 43 (dk_at dksX1_format_4 19 rfl rfl)
theorem dX1_format_114 : decode cX1_format 114 = .ok (.goto 5, 3) := dk_167 0 5 (dk_at dksX1_format_4 21 rfl rfl)
theorem dX1_format_117 : decode cX1_format 117 = .ok (.bipush 45, 2) := dk_16 45 (dk_at dksX1_format_5 0 rfl rfl)
theorem dX1_format_119 : decode cX1_format 119 = .ok (.invokevirtual 378, 3) := dk_182 1 122 (dk_at dksX1_format_5 2 rfl rfl)
theorem dX1_format_122 : decode cX1_format 122 = .ok (.iload 4, 2) := dk_21 4 (dk_at dksX1_format_5 5 rfl rfl)
theorem dX1_format_124 : decode cX1_format 124 = .ok (.invokestatic 202, 3) := dk_184 0 202 (dk_at dksX1_format_5 7 rfl rfl)
theorem dX1_format_127 : decode cX1_format 127 = .ok (.invokevirtual 381, 3) := dk_182 1 125 (dk_at dksX1_format_5 10 rfl rfl)
theorem dX1_format_130 : decode cX1_format 130 = .ok (.pop, 1) := dk_87 (dk_at dksX1_format_5 13 rfl rfl)
theorem dX1_format_131 : decode cX1_format 131 = .ok (.iinc 3 1, 3) := dk_132 3 1 (dk_at dksX1_format_5 14 rfl rfl)
theorem dX1_format_134 : decode cX1_format 134 = .ok (.goto (-115), 3) := dk_167 255 141 (dk_at dksX1_format_5 17 rfl rfl)
theorem dX1_format_137 : decode cX1_format 137 = .ok (.aload_n 2, 1) := dk_44 (dk_at dksX1_format_5 20 rfl rfl)
theorem dX1_format_138 : decode cX1_format 138 = .ok (.iload_n 1, 1) := dk_27 (dk_at dksX1_format_5 21 rfl rfl)
theorem dX1_format_139 : decode cX1_format 139 = .ok (.invokevirtual 277, 3) := dk_182 1 21 (dk_at dksX1_format_6 0 rfl rfl)
theorem dX1_format_142 : decode cX1_format 142 = .ok (.ifCond .eq 14, 3) := dk_153 0 14 (dk_at dksX1_format_6 3 rfl rfl)
theorem dX1_format_145 : decode cX1_format 145 = .ok (.aload_n 0, 1) := dk_42 (dk_at dksX1_format_6 6 rfl rfl)
theorem dX1_format_146 : decode cX1_format 146 = .ok (.getfield 68, 3) := dk_180 0 68 (dk_at dksX1_format_6 7 rfl rfl)
theorem dX1_format_149 : decode cX1_format 149 = .ok (.ldc_w 384, 3) := dk_19 1 128 (dk_at dksX1_format_6 10 rfl rfl)
theorem dX1_format_152 : decode cX1_format 152 = .ok (.invokevirtual 370, 3) := dk_182 1 114 (dk_at dksX1_format_6 13 rfl rfl)
theorem dX1_format_155 : decode cX1_format 155 = .ok (.pop, 1) := dk_87 (dk_at dksX1_format_6 16 rfl rfl)
theorem dX1_format_156 : decode cX1_format 156 = .ok (.aload_n 0, 1) := dk_42 (dk_at dksX1_format_6 17 rfl rfl)
theorem dX1_format_157 : decode cX1_format 157 = .ok (.getfield 68, 3) := dk_180 0 68 (dk_at dksX1_format_6 18 rfl rfl)
theorem dX1_format_160 : decode cX1_format 160 = .ok (.invokevirtual 386, 3) := dk_182 1 130 (dk_at dksX1_format_6 21 rfl rfl)
theorem dX1_format_163 : decode cX1_format 163 = .ok (.ireturn, 1) := dk_172 (dk_at dksX1_format_7 0 rfl rfl)
abbrev cX1_formattedCharacter : ByteArray := prog_1_method_70_code
def yX1_formattedCharacter : MethodName := ⟨RX1, "formattedCharacter", "(I)C"⟩
def dkwX1_formattedCharacter_0 : List UInt8 := [27, 42, 180, 0, 68, 182, 1, 130, 184, 0, 22, 42, 180, 0, 68, 27, 182, 1, 132, 172]
abbrev dktX1_formattedCharacter_0 : List UInt8 := dkwX1_formattedCharacter_0 ++ []
theorem dksX1_formattedCharacter_0 : cX1_formattedCharacter.data.toList.drop 0 = dktX1_formattedCharacter_0 := by decide +kernel
theorem dX1_formattedCharacter_0 : decode cX1_formattedCharacter 0 = .ok (.iload_n 1, 1) := dk_27 (dk_at dksX1_formattedCharacter_0 0 rfl rfl)
theorem dX1_formattedCharacter_1 : decode cX1_formattedCharacter 1 = .ok (.aload_n 0, 1) := dk_42 (dk_at dksX1_formattedCharacter_0 1 rfl rfl)
theorem dX1_formattedCharacter_2 : decode cX1_formattedCharacter 2 = .ok (.getfield 68, 3) := dk_180 0 68 (dk_at dksX1_formattedCharacter_0 2 rfl rfl)
theorem dX1_formattedCharacter_5 : decode cX1_formattedCharacter 5 = .ok (.invokevirtual 386, 3) := dk_182 1 130 (dk_at dksX1_formattedCharacter_0 5 rfl rfl)
theorem dX1_formattedCharacter_8 : decode cX1_formattedCharacter 8 = .ok (.invokestatic 22, 3) := dk_184 0 22 (dk_at dksX1_formattedCharacter_0 8 rfl rfl)
theorem dX1_formattedCharacter_11 : decode cX1_formattedCharacter 11 = .ok (.aload_n 0, 1) := dk_42 (dk_at dksX1_formattedCharacter_0 11 rfl rfl)
theorem dX1_formattedCharacter_12 : decode cX1_formattedCharacter 12 = .ok (.getfield 68, 3) := dk_180 0 68 (dk_at dksX1_formattedCharacter_0 12 rfl rfl)
theorem dX1_formattedCharacter_15 : decode cX1_formattedCharacter 15 = .ok (.iload_n 1, 1) := dk_27 (dk_at dksX1_formattedCharacter_0 15 rfl rfl)
theorem dX1_formattedCharacter_16 : decode cX1_formattedCharacter 16 = .ok (.invokevirtual 388, 3) := dk_182 1 132 (dk_at dksX1_formattedCharacter_0 16 rfl rfl)
theorem dX1_formattedCharacter_19 : decode cX1_formattedCharacter 19 = .ok (.ireturn, 1) := dk_172 (dk_at dksX1_formattedCharacter_0 19 rfl rfl)
theorem q108 : (Jvm.Cond.initialized "CameraMoves") ∈ lw_all := lw_g (lw_at lw_m1 1 rfl) rfl
theorem q153 : (Jvm.Cond.instantiable "CameraMoves" (7 : Nat)) ∈ lw_all := lw_g (lw_at lw_m1 46 rfl) rfl
theorem q155 : (Jvm.Cond.instanceMethod ({ cls := "CameraMoves", name := "<init>", desc := "()V" } : Jvm.MethodName)) ∈ lw_all := lw_g (lw_at lw_m1 48 rfl) rfl
theorem q156 : (Jvm.Cond.code ({ cls := "CameraMoves", name := "<init>", desc := "()V" } : Jvm.MethodName) prog_1_method_8_code (1 : Nat) (Option.none : Option Jvm.ClassFile.FieldType)) ∈ lw_all := lw_g (lw_at lw_m1 49 rfl) rfl
theorem q157 : (Jvm.Cond.methodLink "CameraMoves" (26 : Nat) ({ cls := "java/lang/Object", name := "<init>", desc := "()V" } : Jvm.MethodName)) ∈ lw_all := lw_g (lw_at lw_m1 50 rfl) rfl
theorem q160 : (Jvm.Cond.classLink "CameraMoves" (29 : Nat) "CameraMoves$Plan") ∈ lw_all := lw_g (lw_at lw_m1 53 rfl) rfl
theorem q162 : (Jvm.Cond.classLink "CameraMoves" (31 : Nat) "java/util/ArrayList") ∈ lw_all := lw_g (lw_at lw_m1 55 rfl) rfl
theorem q164 : (Jvm.Cond.methodLink "CameraMoves" (33 : Nat) ({ cls := "java/util/ArrayList", name := "<init>", desc := "(I)V" } : Jvm.MethodName)) ∈ lw_all := lw_g (lw_at lw_m1 57 rfl) rfl
theorem q512 : (Jvm.Cond.methodLink "CameraMoves" (36 : Nat) ({ cls := "CameraMoves$Plan", name := "<init>", desc := "(Ljava/util/ArrayList;)V" } : Jvm.MethodName)) ∈ lw_all := lw_g (lw_at lw_m2 165 rfl) rfl
theorem q521 : (Jvm.Cond.fieldLinkNest "CameraMoves" (119 : Nat) "CameraMoves$Plan" "axes" "Ljava/util/ArrayList;" "CameraMoves") ∈ lw_tbl := lw_at lw_m2 174 rfl
theorem q526 : (Jvm.Cond.fieldLinkNest "CameraMoves" (114 : Nat) "CameraMoves$Plan" "cues" "Ljava/util/ArrayList;" "CameraMoves") ∈ lw_tbl := lw_at lw_m2 179 rfl
theorem q530 : (Jvm.Cond.fieldLinkNest "CameraMoves" (135 : Nat) "CameraMoves$Plan" "walls" "Ljava/util/ArrayList;" "CameraMoves") ∈ lw_tbl := lw_at lw_m2 183 rfl
theorem q533 : (Jvm.Cond.fieldLinkNest "CameraMoves" (130 : Nat) "CameraMoves$Plan" "passes" "Ljava/util/ArrayList;" "CameraMoves") ∈ lw_tbl := lw_at lw_m2 186 rfl
theorem q543 : (Jvm.Cond.classLink "CameraMoves" (43 : Nat) "CameraMoves$Film") ∈ lw_all := lw_g (lw_at lw_m2 196 rfl) rfl
theorem q545 : (Jvm.Cond.methodLinkNest "CameraMoves" (45 : Nat) ({ cls := "CameraMoves$Film", name := "<init>", desc := "()V" } : Jvm.MethodName) "CameraMoves") ∈ lw_tbl := lw_at lw_m2 198 rfl
theorem q557 : (Jvm.Cond.fieldLinkNest "CameraMoves" (225 : Nat) "CameraMoves$Film" "status" "[I" "CameraMoves") ∈ lw_tbl := lw_at lw_m2 210 rfl
theorem q559 : (Jvm.Cond.fieldLinkNest "CameraMoves" (228 : Nat) "CameraMoves$Film" "distance" "[I" "CameraMoves") ∈ lw_tbl := lw_at lw_m2 212 rfl
theorem q561 : (Jvm.Cond.fieldLinkNest "CameraMoves" (249 : Nat) "CameraMoves$Film" "at" "[[I" "CameraMoves") ∈ lw_tbl := lw_at lw_m2 214 rfl
theorem q572 : (Jvm.Cond.classLink "CameraMoves" (50 : Nat) "java/util/ArrayDeque") ∈ lw_all := lw_g (lw_at lw_m2 225 rfl) rfl
theorem q574 : (Jvm.Cond.methodLink "CameraMoves" (52 : Nat) ({ cls := "java/util/ArrayDeque", name := "<init>", desc := "()V" } : Jvm.MethodName)) ∈ lw_all := lw_g (lw_at lw_m2 227 rfl) rfl
theorem q589 : (Jvm.Cond.classLink "CameraMoves" (65 : Nat) "java/lang/StringBuilder") ∈ lw_all := lw_g (lw_at lw_m3 2 rfl) rfl
theorem q590 : (Jvm.Cond.methodLink "CameraMoves" (67 : Nat) ({ cls := "java/lang/StringBuilder", name := "<init>", desc := "()V" } : Jvm.MethodName)) ∈ lw_all := lw_g (lw_at lw_m3 3 rfl) rfl
theorem q591 : (Jvm.Cond.fieldLink "CameraMoves" (39 : Nat) "CameraMoves" "plan" "LCameraMoves$Plan;") ∈ lw_all := lw_g (lw_at lw_m3 4 rfl) rfl
theorem q592 : (Jvm.Cond.fieldLink "CameraMoves" (46 : Nat) "CameraMoves" "film" "LCameraMoves$Film;") ∈ lw_all := lw_g (lw_at lw_m3 5 rfl) rfl
theorem q593 : (Jvm.Cond.fieldLink "CameraMoves" (53 : Nat) "CameraMoves" "history" "Ljava/util/ArrayDeque;") ∈ lw_all := lw_g (lw_at lw_m3 6 rfl) rfl
theorem q595 : (Jvm.Cond.fieldLink "CameraMoves" (57 : Nat) "CameraMoves" "buffer" "[B") ∈ lw_all := lw_g (lw_at lw_m3 8 rfl) rfl
theorem q596 : (Jvm.Cond.fieldLink "CameraMoves" (88 : Nat) "CameraMoves" "length" "I") ∈ lw_all := lw_g (lw_at lw_m3 9 rfl) rfl
theorem q597 : (Jvm.Cond.fieldLink "CameraMoves" (61 : Nat) "CameraMoves" "errorOffset" "I") ∈ lw_all := lw_g (lw_at lw_m3 10 rfl) rfl
theorem q598 : (Jvm.Cond.fieldLink "CameraMoves" (68 : Nat) "CameraMoves" "formatted" "Ljava/lang/StringBuilder;") ∈ lw_all := lw_g (lw_at lw_m3 11 rfl) rfl
theorem q599 : (Jvm.Cond.lays "CameraMoves" "CameraMoves" "plan" "LCameraMoves$Plan;") ∈ lw_all := lw_g (lw_at lw_m3 12 rfl) rfl
theorem q600 : (Jvm.Cond.soleField "CameraMoves" "plan") ∈ lw_all := lw_g (lw_at lw_m3 13 rfl) rfl
theorem q601 : (Jvm.Cond.laysFinal "CameraMoves" "CameraMoves" "film" "LCameraMoves$Film;") ∈ lw_all := lw_g (lw_at lw_m3 14 rfl) rfl
theorem q602 : (Jvm.Cond.soleField "CameraMoves" "film") ∈ lw_all := lw_g (lw_at lw_m3 15 rfl) rfl
theorem q603 : (Jvm.Cond.laysFinal "CameraMoves" "CameraMoves" "history" "Ljava/util/ArrayDeque;") ∈ lw_all := lw_g (lw_at lw_m3 16 rfl) rfl
theorem q604 : (Jvm.Cond.soleField "CameraMoves" "history") ∈ lw_all := lw_g (lw_at lw_m3 17 rfl) rfl
theorem q605 : (Jvm.Cond.laysFinal "CameraMoves" "CameraMoves" "buffer" "[B") ∈ lw_all := lw_g (lw_at lw_m3 18 rfl) rfl
theorem q606 : (Jvm.Cond.soleField "CameraMoves" "buffer") ∈ lw_all := lw_g (lw_at lw_m3 19 rfl) rfl
theorem q607 : (Jvm.Cond.lays "CameraMoves" "CameraMoves" "length" "I") ∈ lw_all := lw_g (lw_at lw_m3 20 rfl) rfl
theorem q608 : (Jvm.Cond.soleField "CameraMoves" "length") ∈ lw_all := lw_g (lw_at lw_m3 21 rfl) rfl
theorem q609 : (Jvm.Cond.lays "CameraMoves" "CameraMoves" "errorOffset" "I") ∈ lw_all := lw_g (lw_at lw_m3 22 rfl) rfl
theorem q610 : (Jvm.Cond.soleField "CameraMoves" "errorOffset") ∈ lw_all := lw_g (lw_at lw_m3 23 rfl) rfl
theorem q611 : (Jvm.Cond.laysFinal "CameraMoves" "CameraMoves" "formatted" "Ljava/lang/StringBuilder;") ∈ lw_all := lw_g (lw_at lw_m3 24 rfl) rfl
theorem q612 : (Jvm.Cond.soleField "CameraMoves" "formatted") ∈ lw_all := lw_g (lw_at lw_m3 25 rfl) rfl
theorem q613 : (Jvm.Cond.superclass "CameraMoves" "java/lang/Object") ∈ lw_all := lw_g (lw_at lw_m3 26 rfl) rfl
theorem q615 : (Jvm.Cond.instanceMethod ({ cls := "CameraMoves", name := "errorOffset", desc := "()I" } : Jvm.MethodName)) ∈ lw_all := lw_g (lw_at lw_m3 28 rfl) rfl
theorem q616 : (Jvm.Cond.selects "CameraMoves" ({ cls := "CameraMoves", name := "errorOffset", desc := "()I" } : Jvm.MethodName) ({ cls := "CameraMoves", name := "errorOffset", desc := "()I" } : Jvm.MethodName)) ∈ lw_all := lw_g (lw_at lw_m3 29 rfl) rfl
theorem q617 : (Jvm.Cond.code ({ cls := "CameraMoves", name := "errorOffset", desc := "()I" } : Jvm.MethodName) prog_1_method_13_code (1 : Nat) (Option.some Jvm.ClassFile.FieldType.int)) ∈ lw_all := lw_g (lw_at lw_m3 30 rfl) rfl
theorem q619 : (Jvm.Cond.instanceMethod ({ cls := "CameraMoves", name := "withStatus", desc := "(I)I" } : Jvm.MethodName)) ∈ lw_all := lw_g (lw_at lw_m3 32 rfl) rfl
theorem q620 : (Jvm.Cond.selects "CameraMoves" ({ cls := "CameraMoves", name := "withStatus", desc := "(I)I" } : Jvm.MethodName) ({ cls := "CameraMoves", name := "withStatus", desc := "(I)I" } : Jvm.MethodName)) ∈ lw_all := lw_g (lw_at lw_m3 33 rfl) rfl
theorem q621 : (Jvm.Cond.code ({ cls := "CameraMoves", name := "withStatus", desc := "(I)I" } : Jvm.MethodName) prog_1_method_33_code (2 : Nat) (Option.some Jvm.ClassFile.FieldType.int)) ∈ lw_all := lw_g (lw_at lw_m3 34 rfl) rfl
theorem q622 : (Jvm.Cond.constantLong "CameraMoves" (231 : Nat) (2 : Int64)) ∈ lw_all := lw_g (lw_at lw_m3 35 rfl) rfl
theorem q623 : (Jvm.Cond.methodLink "CameraMoves" (15 : Nat) ({ cls := "CameraMoves", name := "in", desc := "(JJJ)Z" } : Jvm.MethodName)) ∈ lw_all := lw_g (lw_at lw_m3 36 rfl) rfl
theorem q624 : (Jvm.Cond.static ({ cls := "CameraMoves", name := "in", desc := "(JJJ)Z" } : Jvm.MethodName)) ∈ lw_all := lw_g (lw_at lw_m3 37 rfl) rfl
theorem q625 : (Jvm.Cond.code ({ cls := "CameraMoves", name := "in", desc := "(JJJ)Z" } : Jvm.MethodName) prog_1_method_1_code (6 : Nat) (Option.some Jvm.ClassFile.FieldType.boolean)) ∈ lw_all := lw_g (lw_at lw_m3 38 rfl) rfl
theorem q626 : (Jvm.Cond.methodLink "CameraMoves" (221 : Nat) ({ cls := "CameraMoves", name := "moves", desc := "()LCameraMoves$Film;" } : Jvm.MethodName)) ∈ lw_all := lw_g (lw_at lw_m3 39 rfl) rfl
theorem q627 : (Jvm.Cond.privateMethod ({ cls := "CameraMoves", name := "moves", desc := "()LCameraMoves$Film;" } : Jvm.MethodName)) ∈ lw_tbl := lw_at lw_m3 40 rfl
theorem q628 : (Jvm.Cond.instanceMethod ({ cls := "CameraMoves", name := "moves", desc := "()LCameraMoves$Film;" } : Jvm.MethodName)) ∈ lw_all := lw_g (lw_at lw_m3 41 rfl) rfl
theorem q629 : (Jvm.Cond.code ({ cls := "CameraMoves", name := "moves", desc := "()LCameraMoves$Film;" } : Jvm.MethodName) prog_1_method_29_code (1 : Nat) (Option.some (Jvm.ClassFile.FieldType.object "CameraMoves$Film"))) ∈ lw_all := lw_g (lw_at lw_m3 42 rfl) rfl
theorem q630 : (Jvm.Cond.methodLink "CameraMoves" (214 : Nat) ({ cls := "CameraMoves$Film", name := "layMoves", desc := "(LCameraMoves$Plan;)LCameraMoves$Film;" } : Jvm.MethodName)) ∈ lw_all := lw_g (lw_at lw_m3 43 rfl) rfl
theorem q675 : (Jvm.Cond.static ({ cls := "CameraMoves", name := "has", desc := "(II)Z" } : Jvm.MethodName)) ∈ lw_all := lw_g (lw_at lw_m3 88 rfl) rfl
theorem q676 : (Jvm.Cond.code ({ cls := "CameraMoves", name := "has", desc := "(II)Z" } : Jvm.MethodName) prog_1_method_2_code (2 : Nat) (Option.some Jvm.ClassFile.FieldType.boolean)) ∈ lw_all := lw_g (lw_at lw_m3 89 rfl) rfl
theorem q725 : (Jvm.Cond.static ({ cls := "CameraMoves", name := "requireElement", desc := "(Z)V" } : Jvm.MethodName)) ∈ lw_all := lw_g (lw_at lw_m3 138 rfl) rfl
theorem q726 : (Jvm.Cond.code ({ cls := "CameraMoves", name := "requireElement", desc := "(Z)V" } : Jvm.MethodName) prog_1_method_5_code (1 : Nat) (Option.none : Option Jvm.ClassFile.FieldType)) ∈ lw_all := lw_g (lw_at lw_m3 139 rfl) rfl
theorem q727 : (Jvm.Cond.classLink "CameraMoves" (12 : Nat) "java/util/NoSuchElementException") ∈ lw_all := lw_g (lw_at lw_m3 140 rfl) rfl
theorem q736 : (Jvm.Cond.methodLink "CameraMoves" (14 : Nat) ({ cls := "java/util/NoSuchElementException", name := "<init>", desc := "()V" } : Jvm.MethodName)) ∈ lw_all := lw_g (lw_at lw_m3 149 rfl) rfl
theorem q797 : (Jvm.Cond.methodLink "CameraMoves" (233 : Nat) ({ cls := "CameraMoves$Film", name := "count", desc := "(I)I" } : Jvm.MethodName)) ∈ lw_all := lw_g (lw_at lw_m3 210 rfl) rfl
theorem q807 : (Jvm.Cond.instanceMethod ({ cls := "CameraMoves", name := "end", desc := "()I" } : Jvm.MethodName)) ∈ lw_all := lw_g (lw_at lw_m3 220 rfl) rfl
theorem q808 : (Jvm.Cond.selects "CameraMoves" ({ cls := "CameraMoves", name := "end", desc := "()I" } : Jvm.MethodName) ({ cls := "CameraMoves", name := "end", desc := "()I" } : Jvm.MethodName)) ∈ lw_all := lw_g (lw_at lw_m3 221 rfl) rfl
theorem q809 : (Jvm.Cond.code ({ cls := "CameraMoves", name := "end", desc := "()I" } : Jvm.MethodName) prog_1_method_40_code (1 : Nat) (Option.some Jvm.ClassFile.FieldType.int)) ∈ lw_all := lw_g (lw_at lw_m3 222 rfl) rfl
theorem q810 : (Jvm.Cond.methodLink "CameraMoves" (246 : Nat) ({ cls := "CameraMoves", name := "positions", desc := "()LCameraMoves$Film;" } : Jvm.MethodName)) ∈ lw_all := lw_g (lw_at lw_m3 223 rfl) rfl
theorem q811 : (Jvm.Cond.privateMethod ({ cls := "CameraMoves", name := "positions", desc := "()LCameraMoves$Film;" } : Jvm.MethodName)) ∈ lw_tbl := lw_at lw_m3 224 rfl
theorem q812 : (Jvm.Cond.instanceMethod ({ cls := "CameraMoves", name := "positions", desc := "()LCameraMoves$Film;" } : Jvm.MethodName)) ∈ lw_all := lw_g (lw_at lw_m3 225 rfl) rfl
theorem q813 : (Jvm.Cond.code ({ cls := "CameraMoves", name := "positions", desc := "()LCameraMoves$Film;" } : Jvm.MethodName) prog_1_method_30_code (1 : Nat) (Option.some (Jvm.ClassFile.FieldType.object "CameraMoves$Film"))) ∈ lw_all := lw_g (lw_at lw_m3 226 rfl) rfl
theorem q814 : (Jvm.Cond.methodLink "CameraMoves" (218 : Nat) ({ cls := "CameraMoves$Film", name := "lay", desc := "(LCameraMoves$Plan;)LCameraMoves$Film;" } : Jvm.MethodName)) ∈ lw_all := lw_g (lw_at lw_m3 227 rfl) rfl
theorem q864 : (Jvm.Cond.methodLink "CameraMoves" (258 : Nat) ({ cls := "CameraMoves", name := "end", desc := "(LCameraMoves$Film;)I" } : Jvm.MethodName)) ∈ lw_all := lw_g (lw_at lw_m4 37 rfl) rfl
theorem q865 : (Jvm.Cond.static ({ cls := "CameraMoves", name := "end", desc := "(LCameraMoves$Film;)I" } : Jvm.MethodName)) ∈ lw_all := lw_g (lw_at lw_m4 38 rfl) rfl
theorem q866 : (Jvm.Cond.code ({ cls := "CameraMoves", name := "end", desc := "(LCameraMoves$Film;)I" } : Jvm.MethodName) prog_1_method_39_code (2 : Nat) (Option.some Jvm.ClassFile.FieldType.int)) ∈ lw_all := lw_g (lw_at lw_m4 39 rfl) rfl
theorem q867 : (Jvm.Cond.methodLink "CameraMoves" (255 : Nat) ({ cls := "CameraMoves$Film", name := "moving", desc := "(I)I" } : Jvm.MethodName)) ∈ lw_all := lw_g (lw_at lw_m4 40 rfl) rfl
theorem q876 : (Jvm.Cond.instanceMethod ({ cls := "CameraMoves", name := "stillFrames", desc := "()I" } : Jvm.MethodName)) ∈ lw_all := lw_g (lw_at lw_m4 49 rfl) rfl
theorem q877 : (Jvm.Cond.selects "CameraMoves" ({ cls := "CameraMoves", name := "stillFrames", desc := "()I" } : Jvm.MethodName) ({ cls := "CameraMoves", name := "stillFrames", desc := "()I" } : Jvm.MethodName)) ∈ lw_all := lw_g (lw_at lw_m4 50 rfl) rfl
theorem q878 : (Jvm.Cond.code ({ cls := "CameraMoves", name := "stillFrames", desc := "()I" } : Jvm.MethodName) prog_1_method_41_code (4 : Nat) (Option.some Jvm.ClassFile.FieldType.int)) ∈ lw_all := lw_g (lw_at lw_m4 51 rfl) rfl
theorem q880 : (Jvm.Cond.instanceMethod ({ cls := "CameraMoves", name := "firstHit", desc := "()I" } : Jvm.MethodName)) ∈ lw_all := lw_g (lw_at lw_m4 53 rfl) rfl
theorem q881 : (Jvm.Cond.selects "CameraMoves" ({ cls := "CameraMoves", name := "firstHit", desc := "()I" } : Jvm.MethodName) ({ cls := "CameraMoves", name := "firstHit", desc := "()I" } : Jvm.MethodName)) ∈ lw_all := lw_g (lw_at lw_m4 54 rfl) rfl
theorem q882 : (Jvm.Cond.code ({ cls := "CameraMoves", name := "firstHit", desc := "()I" } : Jvm.MethodName) prog_1_method_46_code (3 : Nat) (Option.some Jvm.ClassFile.FieldType.int)) ∈ lw_all := lw_g (lw_at lw_m4 55 rfl) rfl
theorem q883 : (Jvm.Cond.methodLink "CameraMoves" (277 : Nat) ({ cls := "CameraMoves$Film", name := "walls", desc := "(I)I" } : Jvm.MethodName)) ∈ lw_all := lw_g (lw_at lw_m4 56 rfl) rfl
theorem q898 : (Jvm.Cond.instanceMethod ({ cls := "CameraMoves", name := "append", desc := "(IIIII)I" } : Jvm.MethodName)) ∈ lw_all := lw_g (lw_at lw_m4 71 rfl) rfl
theorem q899 : (Jvm.Cond.selects "CameraMoves" ({ cls := "CameraMoves", name := "append", desc := "(IIIII)I" } : Jvm.MethodName) ({ cls := "CameraMoves", name := "append", desc := "(IIIII)I" } : Jvm.MethodName)) ∈ lw_all := lw_g (lw_at lw_m4 72 rfl) rfl
theorem q900 : (Jvm.Cond.code ({ cls := "CameraMoves", name := "append", desc := "(IIIII)I" } : Jvm.MethodName) prog_1_method_10_code (12 : Nat) (Option.some Jvm.ClassFile.FieldType.int)) ∈ lw_all := lw_g (lw_at lw_m4 73 rfl) rfl
theorem q901 : (Jvm.Cond.methodLink "CameraMoves" (91 : Nat) ({ cls := "CameraMoves", name := "requireState", desc := "(Z)V" } : Jvm.MethodName)) ∈ lw_all := lw_g (lw_at lw_m4 74 rfl) rfl
theorem q902 : (Jvm.Cond.static ({ cls := "CameraMoves", name := "requireState", desc := "(Z)V" } : Jvm.MethodName)) ∈ lw_all := lw_g (lw_at lw_m4 75 rfl) rfl
theorem q903 : (Jvm.Cond.code ({ cls := "CameraMoves", name := "requireState", desc := "(Z)V" } : Jvm.MethodName) prog_1_method_4_code (1 : Nat) (Option.none : Option Jvm.ClassFile.FieldType)) ∈ lw_all := lw_g (lw_at lw_m4 76 rfl) rfl
theorem q904 : (Jvm.Cond.classLink "CameraMoves" (9 : Nat) "java/lang/IllegalStateException") ∈ lw_all := lw_g (lw_at lw_m4 77 rfl) rfl
theorem q913 : (Jvm.Cond.methodLink "CameraMoves" (11 : Nat) ({ cls := "java/lang/IllegalStateException", name := "<init>", desc := "()V" } : Jvm.MethodName)) ∈ lw_all := lw_g (lw_at lw_m4 86 rfl) rfl
theorem q924 : (Jvm.Cond.instanceMethod ({ cls := "CameraMoves", name := "truncate", desc := "(I)V" } : Jvm.MethodName)) ∈ lw_all := lw_g (lw_at lw_m4 97 rfl) rfl
theorem q925 : (Jvm.Cond.selects "CameraMoves" ({ cls := "CameraMoves", name := "truncate", desc := "(I)V" } : Jvm.MethodName) ({ cls := "CameraMoves", name := "truncate", desc := "(I)V" } : Jvm.MethodName)) ∈ lw_all := lw_g (lw_at lw_m4 98 rfl) rfl
theorem q926 : (Jvm.Cond.code ({ cls := "CameraMoves", name := "truncate", desc := "(I)V" } : Jvm.MethodName) prog_1_method_11_code (2 : Nat) (Option.none : Option Jvm.ClassFile.FieldType)) ∈ lw_all := lw_g (lw_at lw_m4 99 rfl) rfl
theorem q927 : (Jvm.Cond.methodLink "CameraMoves" (95 : Nat) ({ cls := "CameraMoves", name := "requireArgument", desc := "(Z)V" } : Jvm.MethodName)) ∈ lw_all := lw_g (lw_at lw_m4 100 rfl) rfl
theorem q928 : (Jvm.Cond.static ({ cls := "CameraMoves", name := "requireArgument", desc := "(Z)V" } : Jvm.MethodName)) ∈ lw_all := lw_g (lw_at lw_m4 101 rfl) rfl
theorem q929 : (Jvm.Cond.code ({ cls := "CameraMoves", name := "requireArgument", desc := "(Z)V" } : Jvm.MethodName) prog_1_method_3_code (1 : Nat) (Option.none : Option Jvm.ClassFile.FieldType)) ∈ lw_all := lw_g (lw_at lw_m4 102 rfl) rfl
theorem q930 : (Jvm.Cond.classLink "CameraMoves" (3 : Nat) "java/lang/IllegalArgumentException") ∈ lw_all := lw_g (lw_at lw_m4 103 rfl) rfl
theorem q931 : (Jvm.Cond.methodLink "CameraMoves" (5 : Nat) ({ cls := "java/lang/IllegalArgumentException", name := "<init>", desc := "()V" } : Jvm.MethodName)) ∈ lw_all := lw_g (lw_at lw_m4 104 rfl) rfl
theorem q939 : (Jvm.Cond.instanceMethod ({ cls := "CameraMoves", name := "load", desc := "()I" } : Jvm.MethodName)) ∈ lw_all := lw_g (lw_at lw_m4 112 rfl) rfl
theorem q940 : (Jvm.Cond.selects "CameraMoves" ({ cls := "CameraMoves", name := "load", desc := "()I" } : Jvm.MethodName) ({ cls := "CameraMoves", name := "load", desc := "()I" } : Jvm.MethodName)) ∈ lw_all := lw_g (lw_at lw_m4 113 rfl) rfl
theorem q941 : (Jvm.Cond.codeWith ({ cls := "CameraMoves", name := "load", desc := "()I" } : Jvm.MethodName) prog_1_method_12_code (3 : Nat) (Option.some Jvm.ClassFile.FieldType.int) [((23 : Nat), (31 : Nat), (34 : Nat), (106 : Nat))]) ∈ lw_all := lw_g (lw_at lw_m4 114 rfl) rfl
theorem q942 : (Jvm.Cond.classLink "CameraMoves" (106 : Nat) "CameraMoves$TextException") ∈ lw_all := lw_g (lw_at lw_m4 115 rfl) rfl
theorem q943 : (Jvm.Cond.classLink "CameraMoves" (98 : Nat) "CameraMoves$Parser") ∈ lw_all := lw_g (lw_at lw_m4 116 rfl) rfl
theorem q945 : (Jvm.Cond.methodLink "CameraMoves" (100 : Nat) ({ cls := "CameraMoves$Parser", name := "<init>", desc := "(LCameraMoves;I)V" } : Jvm.MethodName)) ∈ lw_all := lw_g (lw_at lw_m4 118 rfl) rfl
theorem q979 : (Jvm.Cond.methodLink "CameraMoves" (103 : Nat) ({ cls := "CameraMoves$Parser", name := "parse", desc := "()LCameraMoves$Plan;" } : Jvm.MethodName)) ∈ lw_all := lw_g (lw_at lw_m4 152 rfl) rfl
theorem q1119 : (Jvm.Cond.fieldLinkNest "CameraMoves" (108 : Nat) "CameraMoves$TextException" "offset" "I" "CameraMoves") ∈ lw_tbl := lw_at lw_m5 52 rfl
theorem q1149 : (Jvm.Cond.fieldLinkNest "CameraMoves" (374 : Nat) "CameraMoves$Axis" "name" "Ljava/lang/String;" "CameraMoves") ∈ lw_tbl := lw_at lw_m5 82 rfl
theorem q1152 : (Jvm.Cond.fieldLinkNest "CameraMoves" (157 : Nat) "CameraMoves$Axis" "low" "I" "CameraMoves") ∈ lw_tbl := lw_at lw_m5 85 rfl
theorem q1155 : (Jvm.Cond.fieldLinkNest "CameraMoves" (160 : Nat) "CameraMoves$Axis" "high" "I" "CameraMoves") ∈ lw_tbl := lw_at lw_m5 88 rfl
theorem q1158 : (Jvm.Cond.fieldLinkNest "CameraMoves" (171 : Nat) "CameraMoves$Axis" "start" "I" "CameraMoves") ∈ lw_tbl := lw_at lw_m5 91 rfl
theorem q1161 : (Jvm.Cond.fieldLinkNest "CameraMoves" (165 : Nat) "CameraMoves$Axis" "speed" "I" "CameraMoves") ∈ lw_tbl := lw_at lw_m5 94 rfl
theorem q1164 : (Jvm.Cond.fieldLinkNest "CameraMoves" (168 : Nat) "CameraMoves$Axis" "ramp" "I" "CameraMoves") ∈ lw_tbl := lw_at lw_m5 97 rfl
theorem q1203 : (Jvm.Cond.selects "CameraMoves" ({ cls := "java/lang/Object", name := "getClass", desc := "()Ljava/lang/Class;" } : Jvm.MethodName) ({ cls := "java/lang/Object", name := "getClass", desc := "()Ljava/lang/Class;" } : Jvm.MethodName)) ∈ lw_all := lw_g (lw_at lw_m5 136 rfl) rfl
theorem q1250 : (Jvm.Cond.fieldLinkNest "CameraMoves" (182 : Nat) "CameraMoves$Cue" "targets" "[I" "CameraMoves") ∈ lw_tbl := lw_at lw_m5 183 rfl
theorem q1254 : (Jvm.Cond.fieldLinkNest "CameraMoves" (174 : Nat) "CameraMoves$Cue" "frame" "I" "CameraMoves") ∈ lw_tbl := lw_at lw_m5 187 rfl
theorem q1257 : (Jvm.Cond.fieldLinkNest "CameraMoves" (177 : Nat) "CameraMoves$Cue" "length" "I" "CameraMoves") ∈ lw_tbl := lw_at lw_m5 190 rfl
theorem q1262 : (Jvm.Cond.fieldLinkNest "CameraMoves" (148 : Nat) "CameraMoves$Cue" "axes" "I" "CameraMoves") ∈ lw_tbl := lw_at lw_m5 195 rfl
theorem q1323 : (Jvm.Cond.fieldLinkNest "CameraMoves" (301 : Nat) "CameraMoves$Pass" "num" "I" "CameraMoves") ∈ lw_tbl := lw_at lw_m6 16 rfl
theorem q1326 : (Jvm.Cond.fieldLinkNest "CameraMoves" (304 : Nat) "CameraMoves$Pass" "shift" "I" "CameraMoves") ∈ lw_tbl := lw_at lw_m6 19 rfl
theorem q1334 : (Jvm.Cond.methodLink "CameraMoves" (111 : Nat) ({ cls := "java/util/ArrayDeque", name := "clear", desc := "()V" } : Jvm.MethodName)) ∈ lw_all := lw_g (lw_at lw_m6 27 rfl) rfl
theorem q1341 : (Jvm.Cond.methodLink "CameraMoves" (118 : Nat) ({ cls := "java/util/ArrayList", name := "size", desc := "()I" } : Jvm.MethodName)) ∈ lw_all := lw_g (lw_at lw_m6 34 rfl) rfl
theorem q1346 : (Jvm.Cond.instanceMethod ({ cls := "CameraMoves", name := "count", desc := "(I)I" } : Jvm.MethodName)) ∈ lw_all := lw_g (lw_at lw_m6 39 rfl) rfl
theorem q1347 : (Jvm.Cond.selects "CameraMoves" ({ cls := "CameraMoves", name := "count", desc := "(I)I" } : Jvm.MethodName) ({ cls := "CameraMoves", name := "count", desc := "(I)I" } : Jvm.MethodName)) ∈ lw_all := lw_g (lw_at lw_m6 40 rfl) rfl
theorem q1348 : (Jvm.Cond.code ({ cls := "CameraMoves", name := "count", desc := "(I)I" } : Jvm.MethodName) prog_1_method_20_code (2 : Nat) (Option.some Jvm.ClassFile.FieldType.int)) ∈ lw_all := lw_g (lw_at lw_m6 41 rfl) rfl
theorem q1349 : (Jvm.Cond.constantLong "CameraMoves" (163 : Nat) (3 : Int64)) ∈ lw_all := lw_g (lw_at lw_m6 42 rfl) rfl
theorem q1373 : (Jvm.Cond.instanceMethod ({ cls := "CameraMoves", name := "limit", desc := "(II)I" } : Jvm.MethodName)) ∈ lw_all := lw_g (lw_at lw_m6 66 rfl) rfl
theorem q1374 : (Jvm.Cond.selects "CameraMoves" ({ cls := "CameraMoves", name := "limit", desc := "(II)I" } : Jvm.MethodName) ({ cls := "CameraMoves", name := "limit", desc := "(II)I" } : Jvm.MethodName)) ∈ lw_all := lw_g (lw_at lw_m6 67 rfl) rfl
theorem q1375 : (Jvm.Cond.code ({ cls := "CameraMoves", name := "limit", desc := "(II)I" } : Jvm.MethodName) prog_1_method_21_code (4 : Nat) (Option.some Jvm.ClassFile.FieldType.int)) ∈ lw_all := lw_g (lw_at lw_m6 68 rfl) rfl
theorem q1376 : (Jvm.Cond.methodLink "CameraMoves" (144 : Nat) ({ cls := "CameraMoves", name := "axis", desc := "(I)LCameraMoves$Axis;" } : Jvm.MethodName)) ∈ lw_all := lw_g (lw_at lw_m6 69 rfl) rfl
theorem q1377 : (Jvm.Cond.privateMethod ({ cls := "CameraMoves", name := "axis", desc := "(I)LCameraMoves$Axis;" } : Jvm.MethodName)) ∈ lw_tbl := lw_at lw_m6 70 rfl
theorem q1378 : (Jvm.Cond.instanceMethod ({ cls := "CameraMoves", name := "axis", desc := "(I)LCameraMoves$Axis;" } : Jvm.MethodName)) ∈ lw_all := lw_g (lw_at lw_m6 71 rfl) rfl
theorem q1379 : (Jvm.Cond.code ({ cls := "CameraMoves", name := "axis", desc := "(I)LCameraMoves$Axis;" } : Jvm.MethodName) prog_1_method_14_code (2 : Nat) (Option.some (Jvm.ClassFile.FieldType.object "CameraMoves$Axis"))) ∈ lw_all := lw_g (lw_at lw_m6 72 rfl) rfl
theorem q1380 : (Jvm.Cond.methodLink "CameraMoves" (22 : Nat) ({ cls := "CameraMoves", name := "requireIndex", desc := "(II)V" } : Jvm.MethodName)) ∈ lw_all := lw_g (lw_at lw_m6 73 rfl) rfl
theorem q1381 : (Jvm.Cond.static ({ cls := "CameraMoves", name := "requireIndex", desc := "(II)V" } : Jvm.MethodName)) ∈ lw_all := lw_g (lw_at lw_m6 74 rfl) rfl
theorem q1382 : (Jvm.Cond.code ({ cls := "CameraMoves", name := "requireIndex", desc := "(II)V" } : Jvm.MethodName) prog_1_method_6_code (2 : Nat) (Option.none : Option Jvm.ClassFile.FieldType)) ∈ lw_all := lw_g (lw_at lw_m6 75 rfl) rfl
theorem q1383 : (Jvm.Cond.classLink "CameraMoves" (19 : Nat) "java/lang/IndexOutOfBoundsException") ∈ lw_all := lw_g (lw_at lw_m6 76 rfl) rfl
theorem q1392 : (Jvm.Cond.methodLink "CameraMoves" (21 : Nat) ({ cls := "java/lang/IndexOutOfBoundsException", name := "<init>", desc := "()V" } : Jvm.MethodName)) ∈ lw_all := lw_g (lw_at lw_m6 85 rfl) rfl
theorem q1398 : (Jvm.Cond.methodLink "CameraMoves" (122 : Nat) ({ cls := "java/util/ArrayList", name := "get", desc := "(I)Ljava/lang/Object;" } : Jvm.MethodName)) ∈ lw_all := lw_g (lw_at lw_m6 91 rfl) rfl
theorem q1399 : (Jvm.Cond.classLink "CameraMoves" (126 : Nat) "CameraMoves$Axis") ∈ lw_all := lw_g (lw_at lw_m6 92 rfl) rfl
theorem q1404 : (Jvm.Cond.instanceMethod ({ cls := "CameraMoves", name := "cueFrame", desc := "(I)I" } : Jvm.MethodName)) ∈ lw_all := lw_g (lw_at lw_m6 97 rfl) rfl
theorem q1405 : (Jvm.Cond.selects "CameraMoves" ({ cls := "CameraMoves", name := "cueFrame", desc := "(I)I" } : Jvm.MethodName) ({ cls := "CameraMoves", name := "cueFrame", desc := "(I)I" } : Jvm.MethodName)) ∈ lw_all := lw_g (lw_at lw_m6 98 rfl) rfl
theorem q1406 : (Jvm.Cond.code ({ cls := "CameraMoves", name := "cueFrame", desc := "(I)I" } : Jvm.MethodName) prog_1_method_22_code (2 : Nat) (Option.some Jvm.ClassFile.FieldType.int)) ∈ lw_all := lw_g (lw_at lw_m6 99 rfl) rfl
theorem q1407 : (Jvm.Cond.methodLink "CameraMoves" (140 : Nat) ({ cls := "CameraMoves", name := "cue", desc := "(I)LCameraMoves$Cue;" } : Jvm.MethodName)) ∈ lw_all := lw_g (lw_at lw_m6 100 rfl) rfl
theorem q1408 : (Jvm.Cond.privateMethod ({ cls := "CameraMoves", name := "cue", desc := "(I)LCameraMoves$Cue;" } : Jvm.MethodName)) ∈ lw_tbl := lw_at lw_m6 101 rfl
theorem q1409 : (Jvm.Cond.instanceMethod ({ cls := "CameraMoves", name := "cue", desc := "(I)LCameraMoves$Cue;" } : Jvm.MethodName)) ∈ lw_all := lw_g (lw_at lw_m6 102 rfl) rfl
theorem q1410 : (Jvm.Cond.code ({ cls := "CameraMoves", name := "cue", desc := "(I)LCameraMoves$Cue;" } : Jvm.MethodName) prog_1_method_15_code (2 : Nat) (Option.some (Jvm.ClassFile.FieldType.object "CameraMoves$Cue"))) ∈ lw_all := lw_g (lw_at lw_m6 103 rfl) rfl
theorem q1411 : (Jvm.Cond.classLink "CameraMoves" (128 : Nat) "CameraMoves$Cue") ∈ lw_all := lw_g (lw_at lw_m6 104 rfl) rfl
theorem q1416 : (Jvm.Cond.instanceMethod ({ cls := "CameraMoves", name := "cueLength", desc := "(I)I" } : Jvm.MethodName)) ∈ lw_all := lw_g (lw_at lw_m6 109 rfl) rfl
theorem q1417 : (Jvm.Cond.selects "CameraMoves" ({ cls := "CameraMoves", name := "cueLength", desc := "(I)I" } : Jvm.MethodName) ({ cls := "CameraMoves", name := "cueLength", desc := "(I)I" } : Jvm.MethodName)) ∈ lw_all := lw_g (lw_at lw_m6 110 rfl) rfl
theorem q1418 : (Jvm.Cond.code ({ cls := "CameraMoves", name := "cueLength", desc := "(I)I" } : Jvm.MethodName) prog_1_method_23_code (2 : Nat) (Option.some Jvm.ClassFile.FieldType.int)) ∈ lw_all := lw_g (lw_at lw_m6 111 rfl) rfl
theorem q1424 : (Jvm.Cond.instanceMethod ({ cls := "CameraMoves", name := "target", desc := "(II)I" } : Jvm.MethodName)) ∈ lw_all := lw_g (lw_at lw_m6 117 rfl) rfl
theorem q1425 : (Jvm.Cond.selects "CameraMoves" ({ cls := "CameraMoves", name := "target", desc := "(II)I" } : Jvm.MethodName) ({ cls := "CameraMoves", name := "target", desc := "(II)I" } : Jvm.MethodName)) ∈ lw_all := lw_g (lw_at lw_m6 118 rfl) rfl
theorem q1426 : (Jvm.Cond.code ({ cls := "CameraMoves", name := "target", desc := "(II)I" } : Jvm.MethodName) prog_1_method_24_code (3 : Nat) (Option.some Jvm.ClassFile.FieldType.int)) ∈ lw_all := lw_g (lw_at lw_m6 119 rfl) rfl
theorem q1427 : (Jvm.Cond.methodLink "CameraMoves" (178 : Nat) ({ cls := "CameraMoves", name := "aimed", desc := "(II)LCameraMoves$Cue;" } : Jvm.MethodName)) ∈ lw_all := lw_g (lw_at lw_m6 120 rfl) rfl
theorem q1428 : (Jvm.Cond.privateMethod ({ cls := "CameraMoves", name := "aimed", desc := "(II)LCameraMoves$Cue;" } : Jvm.MethodName)) ∈ lw_tbl := lw_at lw_m6 121 rfl
theorem q1429 : (Jvm.Cond.instanceMethod ({ cls := "CameraMoves", name := "aimed", desc := "(II)LCameraMoves$Cue;" } : Jvm.MethodName)) ∈ lw_all := lw_g (lw_at lw_m6 122 rfl) rfl
theorem q1430 : (Jvm.Cond.code ({ cls := "CameraMoves", name := "aimed", desc := "(II)LCameraMoves$Cue;" } : Jvm.MethodName) prog_1_method_18_code (5 : Nat) (Option.some (Jvm.ClassFile.FieldType.object "CameraMoves$Cue"))) ∈ lw_all := lw_g (lw_at lw_m6 123 rfl) rfl
theorem q1431 : (Jvm.Cond.methodLink "CameraMoves" (150 : Nat) ({ cls := "CameraMoves", name := "has", desc := "(II)Z" } : Jvm.MethodName)) ∈ lw_all := lw_g (lw_at lw_m6 124 rfl) rfl
theorem q1432 : (Jvm.Cond.methodLink "CameraMoves" (154 : Nat) ({ cls := "CameraMoves", name := "requireElement", desc := "(Z)V" } : Jvm.MethodName)) ∈ lw_all := lw_g (lw_at lw_m6 125 rfl) rfl
theorem q1437 : (Jvm.Cond.instanceMethod ({ cls := "CameraMoves", name := "leastFrames", desc := "(II)I" } : Jvm.MethodName)) ∈ lw_all := lw_g (lw_at lw_m6 130 rfl) rfl
theorem q1438 : (Jvm.Cond.selects "CameraMoves" ({ cls := "CameraMoves", name := "leastFrames", desc := "(II)I" } : Jvm.MethodName) ({ cls := "CameraMoves", name := "leastFrames", desc := "(II)I" } : Jvm.MethodName)) ∈ lw_all := lw_g (lw_at lw_m6 131 rfl) rfl
theorem q1439 : (Jvm.Cond.code ({ cls := "CameraMoves", name := "leastFrames", desc := "(II)I" } : Jvm.MethodName) prog_1_method_26_code (4 : Nat) (Option.some Jvm.ClassFile.FieldType.int)) ∈ lw_all := lw_g (lw_at lw_m6 132 rfl) rfl
theorem q1440 : (Jvm.Cond.methodLink "CameraMoves" (190 : Nat) ({ cls := "CameraMoves", name := "requireDistance", desc := "(I)V" } : Jvm.MethodName)) ∈ lw_all := lw_g (lw_at lw_m6 133 rfl) rfl
theorem q1441 : (Jvm.Cond.static ({ cls := "CameraMoves", name := "requireDistance", desc := "(I)V" } : Jvm.MethodName)) ∈ lw_all := lw_g (lw_at lw_m6 134 rfl) rfl
theorem q1442 : (Jvm.Cond.code ({ cls := "CameraMoves", name := "requireDistance", desc := "(I)V" } : Jvm.MethodName) prog_1_method_25_code (1 : Nat) (Option.none : Option Jvm.ClassFile.FieldType)) ∈ lw_all := lw_g (lw_at lw_m6 135 rfl) rfl
theorem q1443 : (Jvm.Cond.constantLong "CameraMoves" (186 : Nat) (-19998 : Int64)) ∈ lw_all := lw_g (lw_at lw_m6 136 rfl) rfl
theorem q1444 : (Jvm.Cond.constantLong "CameraMoves" (188 : Nat) (19998 : Int64)) ∈ lw_all := lw_g (lw_at lw_m6 137 rfl) rfl
theorem q1445 : (Jvm.Cond.methodLink "CameraMoves" (193 : Nat) ({ cls := "CameraMoves$Axis", name := "least", desc := "(I)I" } : Jvm.MethodName)) ∈ lw_all := lw_g (lw_at lw_m6 138 rfl) rfl
theorem q1455 : (Jvm.Cond.instanceMethod ({ cls := "CameraMoves", name := "rampSpeed", desc := "(IIII)I" } : Jvm.MethodName)) ∈ lw_all := lw_g (lw_at lw_m6 148 rfl) rfl
theorem q1456 : (Jvm.Cond.selects "CameraMoves" ({ cls := "CameraMoves", name := "rampSpeed", desc := "(IIII)I" } : Jvm.MethodName) ({ cls := "CameraMoves", name := "rampSpeed", desc := "(IIII)I" } : Jvm.MethodName)) ∈ lw_all := lw_g (lw_at lw_m6 149 rfl) rfl
theorem q1457 : (Jvm.Cond.code ({ cls := "CameraMoves", name := "rampSpeed", desc := "(IIII)I" } : Jvm.MethodName) prog_1_method_27_code (6 : Nat) (Option.some Jvm.ClassFile.FieldType.int)) ∈ lw_all := lw_g (lw_at lw_m6 150 rfl) rfl
theorem q1458 : (Jvm.Cond.constantLong "CameraMoves" (197 : Nat) (999 : Int64)) ∈ lw_all := lw_g (lw_at lw_m6 151 rfl) rfl
theorem q1459 : (Jvm.Cond.methodLink "CameraMoves" (199 : Nat) ({ cls := "CameraMoves$Axis", name := "reach", desc := "(I)I" } : Jvm.MethodName)) ∈ lw_all := lw_g (lw_at lw_m6 152 rfl) rfl
theorem q1460 : (Jvm.Cond.methodLink "CameraMoves" (202 : Nat) ({ cls := "java/lang/Math", name := "abs", desc := "(I)I" } : Jvm.MethodName)) ∈ lw_all := lw_g (lw_at lw_m6 153 rfl) rfl
theorem q1461 : (Jvm.Cond.classLink "CameraMoves" (207 : Nat) "CameraMoves$Ramp") ∈ lw_all := lw_g (lw_at lw_m6 154 rfl) rfl
theorem q1462 : (Jvm.Cond.methodLink "CameraMoves" (209 : Nat) ({ cls := "CameraMoves$Ramp", name := "<init>", desc := "(LCameraMoves$Axis;II)V" } : Jvm.MethodName)) ∈ lw_all := lw_g (lw_at lw_m6 155 rfl) rfl
theorem q1463 : (Jvm.Cond.methodLink "CameraMoves" (212 : Nat) ({ cls := "CameraMoves$Ramp", name := "speed", desc := "(I)I" } : Jvm.MethodName)) ∈ lw_all := lw_g (lw_at lw_m6 156 rfl) rfl
theorem q1468 : (Jvm.Cond.instanceMethod ({ cls := "CameraMoves", name := "reach", desc := "(II)I" } : Jvm.MethodName)) ∈ lw_all := lw_g (lw_at lw_m6 161 rfl) rfl
theorem q1469 : (Jvm.Cond.selects "CameraMoves" ({ cls := "CameraMoves", name := "reach", desc := "(II)I" } : Jvm.MethodName) ({ cls := "CameraMoves", name := "reach", desc := "(II)I" } : Jvm.MethodName)) ∈ lw_all := lw_g (lw_at lw_m6 162 rfl) rfl
theorem q1470 : (Jvm.Cond.code ({ cls := "CameraMoves", name := "reach", desc := "(II)I" } : Jvm.MethodName) prog_1_method_28_code (4 : Nat) (Option.some Jvm.ClassFile.FieldType.int)) ∈ lw_all := lw_g (lw_at lw_m6 163 rfl) rfl
theorem q1475 : (Jvm.Cond.instanceMethod ({ cls := "CameraMoves", name := "status", desc := "(II)I" } : Jvm.MethodName)) ∈ lw_all := lw_g (lw_at lw_m6 168 rfl) rfl
theorem q1476 : (Jvm.Cond.selects "CameraMoves" ({ cls := "CameraMoves", name := "status", desc := "(II)I" } : Jvm.MethodName) ({ cls := "CameraMoves", name := "status", desc := "(II)I" } : Jvm.MethodName)) ∈ lw_all := lw_g (lw_at lw_m6 169 rfl) rfl
theorem q1477 : (Jvm.Cond.code ({ cls := "CameraMoves", name := "status", desc := "(II)I" } : Jvm.MethodName) prog_1_method_31_code (4 : Nat) (Option.some Jvm.ClassFile.FieldType.int)) ∈ lw_all := lw_g (lw_at lw_m6 170 rfl) rfl
theorem q1482 : (Jvm.Cond.instanceMethod ({ cls := "CameraMoves", name := "distance", desc := "(II)I" } : Jvm.MethodName)) ∈ lw_all := lw_g (lw_at lw_m6 175 rfl) rfl
theorem q1483 : (Jvm.Cond.selects "CameraMoves" ({ cls := "CameraMoves", name := "distance", desc := "(II)I" } : Jvm.MethodName) ({ cls := "CameraMoves", name := "distance", desc := "(II)I" } : Jvm.MethodName)) ∈ lw_all := lw_g (lw_at lw_m6 176 rfl) rfl
theorem q1484 : (Jvm.Cond.code ({ cls := "CameraMoves", name := "distance", desc := "(II)I" } : Jvm.MethodName) prog_1_method_32_code (4 : Nat) (Option.some Jvm.ClassFile.FieldType.int)) ∈ lw_all := lw_g (lw_at lw_m6 177 rfl) rfl
theorem q1489 : (Jvm.Cond.instanceMethod ({ cls := "CameraMoves", name := "leastLength", desc := "(I)I" } : Jvm.MethodName)) ∈ lw_all := lw_g (lw_at lw_m6 182 rfl) rfl
theorem q1490 : (Jvm.Cond.selects "CameraMoves" ({ cls := "CameraMoves", name := "leastLength", desc := "(I)I" } : Jvm.MethodName) ({ cls := "CameraMoves", name := "leastLength", desc := "(I)I" } : Jvm.MethodName)) ∈ lw_all := lw_g (lw_at lw_m6 183 rfl) rfl
theorem q1491 : (Jvm.Cond.code ({ cls := "CameraMoves", name := "leastLength", desc := "(I)I" } : Jvm.MethodName) prog_1_method_35_code (3 : Nat) (Option.some Jvm.ClassFile.FieldType.int)) ∈ lw_all := lw_g (lw_at lw_m6 184 rfl) rfl
theorem q1492 : (Jvm.Cond.methodLink "CameraMoves" (240 : Nat) ({ cls := "CameraMoves", name := "leastOf", desc := "(I)I" } : Jvm.MethodName)) ∈ lw_all := lw_g (lw_at lw_m6 185 rfl) rfl
theorem q1493 : (Jvm.Cond.privateMethod ({ cls := "CameraMoves", name := "leastOf", desc := "(I)I" } : Jvm.MethodName)) ∈ lw_tbl := lw_at lw_m6 186 rfl
theorem q1494 : (Jvm.Cond.instanceMethod ({ cls := "CameraMoves", name := "leastOf", desc := "(I)I" } : Jvm.MethodName)) ∈ lw_all := lw_g (lw_at lw_m6 187 rfl) rfl
theorem q1495 : (Jvm.Cond.code ({ cls := "CameraMoves", name := "leastOf", desc := "(I)I" } : Jvm.MethodName) prog_1_method_34_code (5 : Nat) (Option.some Jvm.ClassFile.FieldType.int)) ∈ lw_all := lw_g (lw_at lw_m6 188 rfl) rfl
theorem q1496 : (Jvm.Cond.methodLink "CameraMoves" (236 : Nat) ({ cls := "java/lang/Math", name := "max", desc := "(II)I" } : Jvm.MethodName)) ∈ lw_all := lw_g (lw_at lw_m6 189 rfl) rfl
theorem q1501 : (Jvm.Cond.instanceMethod ({ cls := "CameraMoves", name := "position", desc := "(II)I" } : Jvm.MethodName)) ∈ lw_all := lw_g (lw_at lw_m6 194 rfl) rfl
theorem q1502 : (Jvm.Cond.selects "CameraMoves" ({ cls := "CameraMoves", name := "position", desc := "(II)I" } : Jvm.MethodName) ({ cls := "CameraMoves", name := "position", desc := "(II)I" } : Jvm.MethodName)) ∈ lw_all := lw_g (lw_at lw_m6 195 rfl) rfl
theorem q1503 : (Jvm.Cond.code ({ cls := "CameraMoves", name := "position", desc := "(II)I" } : Jvm.MethodName) prog_1_method_36_code (4 : Nat) (Option.some Jvm.ClassFile.FieldType.int)) ∈ lw_all := lw_g (lw_at lw_m6 196 rfl) rfl
theorem q1504 : (Jvm.Cond.methodLink "CameraMoves" (243 : Nat) ({ cls := "CameraMoves", name := "requireFrame", desc := "(I)V" } : Jvm.MethodName)) ∈ lw_all := lw_g (lw_at lw_m6 197 rfl) rfl
theorem q1505 : (Jvm.Cond.static ({ cls := "CameraMoves", name := "requireFrame", desc := "(I)V" } : Jvm.MethodName)) ∈ lw_all := lw_g (lw_at lw_m6 198 rfl) rfl
theorem q1506 : (Jvm.Cond.code ({ cls := "CameraMoves", name := "requireFrame", desc := "(I)V" } : Jvm.MethodName) prog_1_method_7_code (1 : Nat) (Option.none : Option Jvm.ClassFile.FieldType)) ∈ lw_all := lw_g (lw_at lw_m6 199 rfl) rfl
theorem q1511 : (Jvm.Cond.instanceMethod ({ cls := "CameraMoves", name := "speed", desc := "(II)I" } : Jvm.MethodName)) ∈ lw_all := lw_g (lw_at lw_m6 204 rfl) rfl
theorem q1512 : (Jvm.Cond.selects "CameraMoves" ({ cls := "CameraMoves", name := "speed", desc := "(II)I" } : Jvm.MethodName) ({ cls := "CameraMoves", name := "speed", desc := "(II)I" } : Jvm.MethodName)) ∈ lw_all := lw_g (lw_at lw_m6 205 rfl) rfl
theorem q1513 : (Jvm.Cond.code ({ cls := "CameraMoves", name := "speed", desc := "(II)I" } : Jvm.MethodName) prog_1_method_37_code (4 : Nat) (Option.some Jvm.ClassFile.FieldType.int)) ∈ lw_all := lw_g (lw_at lw_m6 206 rfl) rfl
theorem q1514 : (Jvm.Cond.methodLink "CameraMoves" (253 : Nat) ({ cls := "CameraMoves$Film", name := "speed", desc := "(II)I" } : Jvm.MethodName)) ∈ lw_all := lw_g (lw_at lw_m6 207 rfl) rfl
theorem q1519 : (Jvm.Cond.instanceMethod ({ cls := "CameraMoves", name := "moving", desc := "(I)I" } : Jvm.MethodName)) ∈ lw_all := lw_g (lw_at lw_m6 212 rfl) rfl
theorem q1520 : (Jvm.Cond.selects "CameraMoves" ({ cls := "CameraMoves", name := "moving", desc := "(I)I" } : Jvm.MethodName) ({ cls := "CameraMoves", name := "moving", desc := "(I)I" } : Jvm.MethodName)) ∈ lw_all := lw_g (lw_at lw_m6 213 rfl) rfl
theorem q1521 : (Jvm.Cond.code ({ cls := "CameraMoves", name := "moving", desc := "(I)I" } : Jvm.MethodName) prog_1_method_38_code (2 : Nat) (Option.some Jvm.ClassFile.FieldType.int)) ∈ lw_all := lw_g (lw_at lw_m6 214 rfl) rfl
theorem q1526 : (Jvm.Cond.instanceMethod ({ cls := "CameraMoves", name := "travelled", desc := "(I)I" } : Jvm.MethodName)) ∈ lw_all := lw_g (lw_at lw_m6 219 rfl) rfl
theorem q1527 : (Jvm.Cond.selects "CameraMoves" ({ cls := "CameraMoves", name := "travelled", desc := "(I)I" } : Jvm.MethodName) ({ cls := "CameraMoves", name := "travelled", desc := "(I)I" } : Jvm.MethodName)) ∈ lw_all := lw_g (lw_at lw_m6 220 rfl) rfl
theorem q1528 : (Jvm.Cond.code ({ cls := "CameraMoves", name := "travelled", desc := "(I)I" } : Jvm.MethodName) prog_1_method_42_code (3 : Nat) (Option.some Jvm.ClassFile.FieldType.int)) ∈ lw_all := lw_g (lw_at lw_m6 221 rfl) rfl
theorem q1529 : (Jvm.Cond.methodLink "CameraMoves" (262 : Nat) ({ cls := "CameraMoves$Film", name := "travelled", desc := "(I)I" } : Jvm.MethodName)) ∈ lw_all := lw_g (lw_at lw_m6 222 rfl) rfl
theorem q1569 : (Jvm.Cond.instanceMethod ({ cls := "CameraMoves", name := "fastest", desc := "(I)I" } : Jvm.MethodName)) ∈ lw_all := lw_g (lw_at lw_m7 22 rfl) rfl
theorem q1570 : (Jvm.Cond.selects "CameraMoves" ({ cls := "CameraMoves", name := "fastest", desc := "(I)I" } : Jvm.MethodName) ({ cls := "CameraMoves", name := "fastest", desc := "(I)I" } : Jvm.MethodName)) ∈ lw_all := lw_g (lw_at lw_m7 23 rfl) rfl
theorem q1571 : (Jvm.Cond.code ({ cls := "CameraMoves", name := "fastest", desc := "(I)I" } : Jvm.MethodName) prog_1_method_43_code (3 : Nat) (Option.some Jvm.ClassFile.FieldType.int)) ∈ lw_all := lw_g (lw_at lw_m7 24 rfl) rfl
theorem q1572 : (Jvm.Cond.classLink "CameraMoves" (265 : Nat) "CameraMoves$1Fastest") ∈ lw_all := lw_g (lw_at lw_m7 25 rfl) rfl
theorem q1574 : (Jvm.Cond.methodLink "CameraMoves" (267 : Nat) ({ cls := "CameraMoves$1Fastest", name := "<init>", desc := "(LCameraMoves;)V" } : Jvm.MethodName)) ∈ lw_all := lw_g (lw_at lw_m7 27 rfl) rfl
theorem q1582 : (Jvm.Cond.methodLink "CameraMoves" (270 : Nat) ({ cls := "CameraMoves$Film", name := "measure", desc := "(ILCameraMoves$Measure;)I" } : Jvm.MethodName)) ∈ lw_all := lw_g (lw_at lw_m7 35 rfl) rfl
theorem q1587 : (Jvm.Cond.instanceMethod ({ cls := "CameraMoves", name := "meanSpeed", desc := "(I)D" } : Jvm.MethodName)) ∈ lw_all := lw_g (lw_at lw_m7 40 rfl) rfl
theorem q1588 : (Jvm.Cond.selects "CameraMoves" ({ cls := "CameraMoves", name := "meanSpeed", desc := "(I)D" } : Jvm.MethodName) ({ cls := "CameraMoves", name := "meanSpeed", desc := "(I)D" } : Jvm.MethodName)) ∈ lw_all := lw_g (lw_at lw_m7 41 rfl) rfl
theorem q1589 : (Jvm.Cond.code ({ cls := "CameraMoves", name := "meanSpeed", desc := "(I)D" } : Jvm.MethodName) prog_1_method_44_code (5 : Nat) (Option.some Jvm.ClassFile.FieldType.double)) ∈ lw_all := lw_g (lw_at lw_m7 42 rfl) rfl
theorem q1590 : (Jvm.Cond.classLink "CameraMoves" (274 : Nat) "CameraMoves$1") ∈ lw_all := lw_g (lw_at lw_m7 43 rfl) rfl
theorem q1592 : (Jvm.Cond.methodLink "CameraMoves" (276 : Nat) ({ cls := "CameraMoves$1", name := "<init>", desc := "(LCameraMoves;)V" } : Jvm.MethodName)) ∈ lw_all := lw_g (lw_at lw_m7 45 rfl) rfl
theorem q1604 : (Jvm.Cond.instanceMethod ({ cls := "CameraMoves", name := "walls", desc := "(I)I" } : Jvm.MethodName)) ∈ lw_all := lw_g (lw_at lw_m7 57 rfl) rfl
theorem q1605 : (Jvm.Cond.selects "CameraMoves" ({ cls := "CameraMoves", name := "walls", desc := "(I)I" } : Jvm.MethodName) ({ cls := "CameraMoves", name := "walls", desc := "(I)I" } : Jvm.MethodName)) ∈ lw_all := lw_g (lw_at lw_m7 58 rfl) rfl
theorem q1606 : (Jvm.Cond.code ({ cls := "CameraMoves", name := "walls", desc := "(I)I" } : Jvm.MethodName) prog_1_method_45_code (2 : Nat) (Option.some Jvm.ClassFile.FieldType.int)) ∈ lw_all := lw_g (lw_at lw_m7 59 rfl) rfl
theorem q1611 : (Jvm.Cond.instanceMethod ({ cls := "CameraMoves", name := "framesInside", desc := "(I)I" } : Jvm.MethodName)) ∈ lw_all := lw_g (lw_at lw_m7 64 rfl) rfl
theorem q1612 : (Jvm.Cond.selects "CameraMoves" ({ cls := "CameraMoves", name := "framesInside", desc := "(I)I" } : Jvm.MethodName) ({ cls := "CameraMoves", name := "framesInside", desc := "(I)I" } : Jvm.MethodName)) ∈ lw_all := lw_g (lw_at lw_m7 65 rfl) rfl
theorem q1613 : (Jvm.Cond.code ({ cls := "CameraMoves", name := "framesInside", desc := "(I)I" } : Jvm.MethodName) prog_1_method_47_code (6 : Nat) (Option.some Jvm.ClassFile.FieldType.int)) ∈ lw_all := lw_g (lw_at lw_m7 66 rfl) rfl
theorem q1614 : (Jvm.Cond.methodLink "CameraMoves" (279 : Nat) ({ cls := "CameraMoves", name := "wall", desc := "(I)LCameraMoves$Wall;" } : Jvm.MethodName)) ∈ lw_all := lw_g (lw_at lw_m7 67 rfl) rfl
theorem q1615 : (Jvm.Cond.privateMethod ({ cls := "CameraMoves", name := "wall", desc := "(I)LCameraMoves$Wall;" } : Jvm.MethodName)) ∈ lw_tbl := lw_at lw_m7 68 rfl
theorem q1616 : (Jvm.Cond.instanceMethod ({ cls := "CameraMoves", name := "wall", desc := "(I)LCameraMoves$Wall;" } : Jvm.MethodName)) ∈ lw_all := lw_g (lw_at lw_m7 69 rfl) rfl
theorem q1617 : (Jvm.Cond.code ({ cls := "CameraMoves", name := "wall", desc := "(I)LCameraMoves$Wall;" } : Jvm.MethodName) prog_1_method_17_code (2 : Nat) (Option.some (Jvm.ClassFile.FieldType.object "CameraMoves$Wall"))) ∈ lw_all := lw_g (lw_at lw_m7 70 rfl) rfl
theorem q1618 : (Jvm.Cond.classLink "CameraMoves" (138 : Nat) "CameraMoves$Wall") ∈ lw_all := lw_g (lw_at lw_m7 71 rfl) rfl
theorem q1619 : (Jvm.Cond.methodLink "CameraMoves" (283 : Nat) ({ cls := "CameraMoves$Film", name := "isInside", desc := "(II)Z" } : Jvm.MethodName)) ∈ lw_all := lw_g (lw_at lw_m7 72 rfl) rfl
theorem q1624 : (Jvm.Cond.instanceMethod ({ cls := "CameraMoves", name := "shown", desc := "(II)I" } : Jvm.MethodName)) ∈ lw_all := lw_g (lw_at lw_m7 77 rfl) rfl
theorem q1625 : (Jvm.Cond.selects "CameraMoves" ({ cls := "CameraMoves", name := "shown", desc := "(II)I" } : Jvm.MethodName) ({ cls := "CameraMoves", name := "shown", desc := "(II)I" } : Jvm.MethodName)) ∈ lw_all := lw_g (lw_at lw_m7 78 rfl) rfl
theorem q1626 : (Jvm.Cond.code ({ cls := "CameraMoves", name := "shown", desc := "(II)I" } : Jvm.MethodName) prog_1_method_48_code (4 : Nat) (Option.some Jvm.ClassFile.FieldType.int)) ∈ lw_all := lw_g (lw_at lw_m7 79 rfl) rfl
theorem q1627 : (Jvm.Cond.methodLink "CameraMoves" (286 : Nat) ({ cls := "CameraMoves", name := "pass", desc := "(I)LCameraMoves$Pass;" } : Jvm.MethodName)) ∈ lw_all := lw_g (lw_at lw_m7 80 rfl) rfl
theorem q1628 : (Jvm.Cond.privateMethod ({ cls := "CameraMoves", name := "pass", desc := "(I)LCameraMoves$Pass;" } : Jvm.MethodName)) ∈ lw_tbl := lw_at lw_m7 81 rfl
theorem q1629 : (Jvm.Cond.instanceMethod ({ cls := "CameraMoves", name := "pass", desc := "(I)LCameraMoves$Pass;" } : Jvm.MethodName)) ∈ lw_all := lw_g (lw_at lw_m7 82 rfl) rfl
theorem q1630 : (Jvm.Cond.code ({ cls := "CameraMoves", name := "pass", desc := "(I)LCameraMoves$Pass;" } : Jvm.MethodName) prog_1_method_16_code (2 : Nat) (Option.some (Jvm.ClassFile.FieldType.object "CameraMoves$Pass"))) ∈ lw_all := lw_g (lw_at lw_m7 83 rfl) rfl
theorem q1631 : (Jvm.Cond.classLink "CameraMoves" (133 : Nat) "CameraMoves$Pass") ∈ lw_all := lw_g (lw_at lw_m7 84 rfl) rfl
theorem q1632 : (Jvm.Cond.methodLink "CameraMoves" (290 : Nat) ({ cls := "CameraMoves$Pass", name := "shown", desc := "(I)I" } : Jvm.MethodName)) ∈ lw_all := lw_g (lw_at lw_m7 85 rfl) rfl
theorem q1641 : (Jvm.Cond.instanceMethod ({ cls := "CameraMoves", name := "passPosition", desc := "(III)I" } : Jvm.MethodName)) ∈ lw_all := lw_g (lw_at lw_m7 94 rfl) rfl
theorem q1642 : (Jvm.Cond.selects "CameraMoves" ({ cls := "CameraMoves", name := "passPosition", desc := "(III)I" } : Jvm.MethodName) ({ cls := "CameraMoves", name := "passPosition", desc := "(III)I" } : Jvm.MethodName)) ∈ lw_all := lw_g (lw_at lw_m7 95 rfl) rfl
theorem q1643 : (Jvm.Cond.code ({ cls := "CameraMoves", name := "passPosition", desc := "(III)I" } : Jvm.MethodName) prog_1_method_49_code (6 : Nat) (Option.some Jvm.ClassFile.FieldType.int)) ∈ lw_all := lw_g (lw_at lw_m7 96 rfl) rfl
theorem q1648 : (Jvm.Cond.instanceMethod ({ cls := "CameraMoves", name := "fits", desc := "(I)Z" } : Jvm.MethodName)) ∈ lw_all := lw_g (lw_at lw_m7 101 rfl) rfl
theorem q1649 : (Jvm.Cond.selects "CameraMoves" ({ cls := "CameraMoves", name := "fits", desc := "(I)Z" } : Jvm.MethodName) ({ cls := "CameraMoves", name := "fits", desc := "(I)Z" } : Jvm.MethodName)) ∈ lw_all := lw_g (lw_at lw_m7 102 rfl) rfl
theorem q1650 : (Jvm.Cond.code ({ cls := "CameraMoves", name := "fits", desc := "(I)Z" } : Jvm.MethodName) prog_1_method_50_code (3 : Nat) (Option.some Jvm.ClassFile.FieldType.boolean)) ∈ lw_all := lw_g (lw_at lw_m7 103 rfl) rfl
theorem q1651 : (Jvm.Cond.methodLink "CameraMoves" (293 : Nat) ({ cls := "CameraMoves$Film", name := "fits", desc := "(LCameraMoves$Pass;)Z" } : Jvm.MethodName)) ∈ lw_all := lw_g (lw_at lw_m7 104 rfl) rfl
theorem q1660 : (Jvm.Cond.instanceMethod ({ cls := "CameraMoves", name := "matches", desc := "(II)I" } : Jvm.MethodName)) ∈ lw_all := lw_g (lw_at lw_m7 113 rfl) rfl
theorem q1661 : (Jvm.Cond.selects "CameraMoves" ({ cls := "CameraMoves", name := "matches", desc := "(II)I" } : Jvm.MethodName) ({ cls := "CameraMoves", name := "matches", desc := "(II)I" } : Jvm.MethodName)) ∈ lw_all := lw_g (lw_at lw_m7 114 rfl) rfl
theorem q1662 : (Jvm.Cond.code ({ cls := "CameraMoves", name := "matches", desc := "(II)I" } : Jvm.MethodName) prog_1_method_51_code (8 : Nat) (Option.some Jvm.ClassFile.FieldType.int)) ∈ lw_all := lw_g (lw_at lw_m7 115 rfl) rfl
theorem q1663 : (Jvm.Cond.methodLink "CameraMoves" (297 : Nat) ({ cls := "CameraMoves$Film", name := "isMatch", desc := "(LCameraMoves$Pass;LCameraMoves$Pass;I)Z" } : Jvm.MethodName)) ∈ lw_all := lw_g (lw_at lw_m7 116 rfl) rfl
theorem q1671 : (Jvm.Cond.instanceMethod ({ cls := "CameraMoves", name := "mismatch", desc := "(II)I" } : Jvm.MethodName)) ∈ lw_all := lw_g (lw_at lw_m7 124 rfl) rfl
theorem q1672 : (Jvm.Cond.selects "CameraMoves" ({ cls := "CameraMoves", name := "mismatch", desc := "(II)I" } : Jvm.MethodName) ({ cls := "CameraMoves", name := "mismatch", desc := "(II)I" } : Jvm.MethodName)) ∈ lw_all := lw_g (lw_at lw_m7 125 rfl) rfl
theorem q1673 : (Jvm.Cond.code ({ cls := "CameraMoves", name := "mismatch", desc := "(II)I" } : Jvm.MethodName) prog_1_method_52_code (7 : Nat) (Option.some Jvm.ClassFile.FieldType.int)) ∈ lw_all := lw_g (lw_at lw_m7 126 rfl) rfl
theorem q1678 : (Jvm.Cond.instanceMethod ({ cls := "CameraMoves", name := "fittingDen", desc := "(I)I" } : Jvm.MethodName)) ∈ lw_all := lw_g (lw_at lw_m7 131 rfl) rfl
theorem q1679 : (Jvm.Cond.selects "CameraMoves" ({ cls := "CameraMoves", name := "fittingDen", desc := "(I)I" } : Jvm.MethodName) ({ cls := "CameraMoves", name := "fittingDen", desc := "(I)I" } : Jvm.MethodName)) ∈ lw_all := lw_g (lw_at lw_m7 132 rfl) rfl
theorem q1680 : (Jvm.Cond.code ({ cls := "CameraMoves", name := "fittingDen", desc := "(I)I" } : Jvm.MethodName) prog_1_method_53_code (5 : Nat) (Option.some Jvm.ClassFile.FieldType.int)) ∈ lw_all := lw_g (lw_at lw_m7 133 rfl) rfl
theorem q1681 : (Jvm.Cond.methodLink "CameraMoves" (307 : Nat) ({ cls := "CameraMoves$Pass", name := "<init>", desc := "(III)V" } : Jvm.MethodName)) ∈ lw_all := lw_g (lw_at lw_m7 134 rfl) rfl
theorem q1686 : (Jvm.Cond.instanceMethod ({ cls := "CameraMoves", name := "earliest", desc := "(I)I" } : Jvm.MethodName)) ∈ lw_all := lw_g (lw_at lw_m7 139 rfl) rfl
theorem q1687 : (Jvm.Cond.selects "CameraMoves" ({ cls := "CameraMoves", name := "earliest", desc := "(I)I" } : Jvm.MethodName) ({ cls := "CameraMoves", name := "earliest", desc := "(I)I" } : Jvm.MethodName)) ∈ lw_all := lw_g (lw_at lw_m7 140 rfl) rfl
theorem q1688 : (Jvm.Cond.code ({ cls := "CameraMoves", name := "earliest", desc := "(I)I" } : Jvm.MethodName) prog_1_method_54_code (5 : Nat) (Option.some Jvm.ClassFile.FieldType.int)) ∈ lw_all := lw_g (lw_at lw_m7 141 rfl) rfl
theorem q1689 : (Jvm.Cond.methodLink "CameraMoves" (80 : Nat) ({ cls := "CameraMoves$Plan", name := "copy", desc := "()LCameraMoves$Plan;" } : Jvm.MethodName)) ∈ lw_all := lw_g (lw_at lw_m7 142 rfl) rfl
theorem q1739 : (Jvm.Cond.methodLink "CameraMoves" (310 : Nat) ({ cls := "CameraMoves$Film", name := "countOf", desc := "(II)I" } : Jvm.MethodName)) ∈ lw_all := lw_g (lw_at lw_m7 192 rfl) rfl
theorem q1740 : (Jvm.Cond.methodLink "CameraMoves" (313 : Nat) ({ cls := "java/lang/Integer", name := "bitCount", desc := "(I)I" } : Jvm.MethodName)) ∈ lw_all := lw_g (lw_at lw_m7 193 rfl) rfl
theorem q1750 : (Jvm.Cond.instanceMethod ({ cls := "CameraMoves", name := "hitsIf", desc := "(II)I" } : Jvm.MethodName)) ∈ lw_all := lw_g (lw_at lw_m7 203 rfl) rfl
theorem q1751 : (Jvm.Cond.selects "CameraMoves" ({ cls := "CameraMoves", name := "hitsIf", desc := "(II)I" } : Jvm.MethodName) ({ cls := "CameraMoves", name := "hitsIf", desc := "(II)I" } : Jvm.MethodName)) ∈ lw_all := lw_g (lw_at lw_m7 204 rfl) rfl
theorem q1752 : (Jvm.Cond.code ({ cls := "CameraMoves", name := "hitsIf", desc := "(II)I" } : Jvm.MethodName) prog_1_method_55_code (5 : Nat) (Option.some Jvm.ClassFile.FieldType.int)) ∈ lw_all := lw_g (lw_at lw_m7 205 rfl) rfl
theorem q1753 : (Jvm.Cond.methodLink "CameraMoves" (318 : Nat) ({ cls := "CameraMoves$Film", name := "hits", desc := "()I" } : Jvm.MethodName)) ∈ lw_all := lw_g (lw_at lw_m7 206 rfl) rfl
theorem q1762 : (Jvm.Cond.instanceMethod ({ cls := "CameraMoves", name := "mostSaved", desc := "(I)I" } : Jvm.MethodName)) ∈ lw_all := lw_g (lw_at lw_m7 215 rfl) rfl
theorem q1763 : (Jvm.Cond.selects "CameraMoves" ({ cls := "CameraMoves", name := "mostSaved", desc := "(I)I" } : Jvm.MethodName) ({ cls := "CameraMoves", name := "mostSaved", desc := "(I)I" } : Jvm.MethodName)) ∈ lw_all := lw_g (lw_at lw_m7 216 rfl) rfl
theorem q1764 : (Jvm.Cond.code ({ cls := "CameraMoves", name := "mostSaved", desc := "(I)I" } : Jvm.MethodName) prog_1_method_56_code (8 : Nat) (Option.some Jvm.ClassFile.FieldType.int)) ∈ lw_all := lw_g (lw_at lw_m7 217 rfl) rfl
theorem q1765 : (Jvm.Cond.methodLink "CameraMoves" (321 : Nat) ({ cls := "java/util/ArrayList", name := "remove", desc := "(I)Ljava/lang/Object;" } : Jvm.MethodName)) ∈ lw_all := lw_g (lw_at lw_m7 218 rfl) rfl
theorem q1778 : (Jvm.Cond.instanceMethod ({ cls := "CameraMoves", name := "addCue", desc := "(IIII)I" } : Jvm.MethodName)) ∈ lw_all := lw_g (lw_at lw_m7 231 rfl) rfl
theorem q1779 : (Jvm.Cond.selects "CameraMoves" ({ cls := "CameraMoves", name := "addCue", desc := "(IIII)I" } : Jvm.MethodName) ({ cls := "CameraMoves", name := "addCue", desc := "(IIII)I" } : Jvm.MethodName)) ∈ lw_all := lw_g (lw_at lw_m7 232 rfl) rfl
theorem q1780 : (Jvm.Cond.code ({ cls := "CameraMoves", name := "addCue", desc := "(IIII)I" } : Jvm.MethodName) prog_1_method_57_code (7 : Nat) (Option.some Jvm.ClassFile.FieldType.int)) ∈ lw_all := lw_g (lw_at lw_m7 233 rfl) rfl
theorem q1781 : (Jvm.Cond.constantLong "CameraMoves" (324 : Nat) (998 : Int64)) ∈ lw_all := lw_g (lw_at lw_m7 234 rfl) rfl
theorem q1782 : (Jvm.Cond.methodLink "CameraMoves" (326 : Nat) ({ cls := "CameraMoves", name := "requirePlace", desc := "(LCameraMoves$Axis;I)V" } : Jvm.MethodName)) ∈ lw_all := lw_g (lw_at lw_m7 235 rfl) rfl
theorem q1783 : (Jvm.Cond.static ({ cls := "CameraMoves", name := "requirePlace", desc := "(LCameraMoves$Axis;I)V" } : Jvm.MethodName)) ∈ lw_all := lw_g (lw_at lw_m7 236 rfl) rfl
theorem q1784 : (Jvm.Cond.code ({ cls := "CameraMoves", name := "requirePlace", desc := "(LCameraMoves$Axis;I)V" } : Jvm.MethodName) prog_1_method_19_code (2 : Nat) (Option.none : Option Jvm.ClassFile.FieldType)) ∈ lw_all := lw_g (lw_at lw_m7 237 rfl) rfl
theorem q1785 : (Jvm.Cond.methodLink "CameraMoves" (330 : Nat) ({ cls := "CameraMoves", name := "remember", desc := "()V" } : Jvm.MethodName)) ∈ lw_all := lw_g (lw_at lw_m7 238 rfl) rfl
theorem q1786 : (Jvm.Cond.privateMethod ({ cls := "CameraMoves", name := "remember", desc := "()V" } : Jvm.MethodName)) ∈ lw_tbl := lw_at lw_m7 239 rfl
theorem q1787 : (Jvm.Cond.instanceMethod ({ cls := "CameraMoves", name := "remember", desc := "()V" } : Jvm.MethodName)) ∈ lw_all := lw_g (lw_at lw_m8 0 rfl) rfl
theorem q1788 : (Jvm.Cond.code ({ cls := "CameraMoves", name := "remember", desc := "()V" } : Jvm.MethodName) prog_1_method_9_code (1 : Nat) (Option.none : Option Jvm.ClassFile.FieldType)) ∈ lw_all := lw_g (lw_at lw_m8 1 rfl) rfl
theorem q1789 : (Jvm.Cond.methodLink "CameraMoves" (72 : Nat) ({ cls := "java/util/ArrayDeque", name := "size", desc := "()I" } : Jvm.MethodName)) ∈ lw_all := lw_g (lw_at lw_m8 2 rfl) rfl
theorem q1796 : (Jvm.Cond.methodLink "CameraMoves" (76 : Nat) ({ cls := "java/util/ArrayDeque", name := "removeFirst", desc := "()Ljava/lang/Object;" } : Jvm.MethodName)) ∈ lw_all := lw_g (lw_at lw_m8 9 rfl) rfl
theorem q1812 : (Jvm.Cond.methodLink "CameraMoves" (84 : Nat) ({ cls := "java/util/ArrayDeque", name := "addLast", desc := "(Ljava/lang/Object;)V" } : Jvm.MethodName)) ∈ lw_all := lw_g (lw_at lw_m8 25 rfl) rfl
theorem q1834 : (Jvm.Cond.methodLink "CameraMoves" (333 : Nat) ({ cls := "CameraMoves$Cue", name := "<init>", desc := "(II)V" } : Jvm.MethodName)) ∈ lw_all := lw_g (lw_at lw_m8 47 rfl) rfl
theorem q1835 : (Jvm.Cond.methodLink "CameraMoves" (335 : Nat) ({ cls := "CameraMoves$Cue", name := "aim", desc := "(II)V" } : Jvm.MethodName)) ∈ lw_all := lw_g (lw_at lw_m8 48 rfl) rfl
theorem q1836 : (Jvm.Cond.methodLink "CameraMoves" (338 : Nat) ({ cls := "java/util/ArrayList", name := "add", desc := "(Ljava/lang/Object;)Z" } : Jvm.MethodName)) ∈ lw_all := lw_g (lw_at lw_m8 49 rfl) rfl
theorem q1841 : (Jvm.Cond.instanceMethod ({ cls := "CameraMoves", name := "setTarget", desc := "(III)I" } : Jvm.MethodName)) ∈ lw_all := lw_g (lw_at lw_m8 54 rfl) rfl
theorem q1842 : (Jvm.Cond.selects "CameraMoves" ({ cls := "CameraMoves", name := "setTarget", desc := "(III)I" } : Jvm.MethodName) ({ cls := "CameraMoves", name := "setTarget", desc := "(III)I" } : Jvm.MethodName)) ∈ lw_all := lw_g (lw_at lw_m8 55 rfl) rfl
theorem q1843 : (Jvm.Cond.code ({ cls := "CameraMoves", name := "setTarget", desc := "(III)I" } : Jvm.MethodName) prog_1_method_58_code (5 : Nat) (Option.some Jvm.ClassFile.FieldType.int)) ∈ lw_all := lw_g (lw_at lw_m8 56 rfl) rfl
theorem q1848 : (Jvm.Cond.instanceMethod ({ cls := "CameraMoves", name := "removeTarget", desc := "(II)I" } : Jvm.MethodName)) ∈ lw_all := lw_g (lw_at lw_m8 61 rfl) rfl
theorem q1849 : (Jvm.Cond.selects "CameraMoves" ({ cls := "CameraMoves", name := "removeTarget", desc := "(II)I" } : Jvm.MethodName) ({ cls := "CameraMoves", name := "removeTarget", desc := "(II)I" } : Jvm.MethodName)) ∈ lw_all := lw_g (lw_at lw_m8 62 rfl) rfl
theorem q1850 : (Jvm.Cond.code ({ cls := "CameraMoves", name := "removeTarget", desc := "(II)I" } : Jvm.MethodName) prog_1_method_59_code (4 : Nat) (Option.some Jvm.ClassFile.FieldType.int)) ∈ lw_all := lw_g (lw_at lw_m8 63 rfl) rfl
theorem q1855 : (Jvm.Cond.instanceMethod ({ cls := "CameraMoves", name := "removeCue", desc := "(I)I" } : Jvm.MethodName)) ∈ lw_all := lw_g (lw_at lw_m8 68 rfl) rfl
theorem q1856 : (Jvm.Cond.selects "CameraMoves" ({ cls := "CameraMoves", name := "removeCue", desc := "(I)I" } : Jvm.MethodName) ({ cls := "CameraMoves", name := "removeCue", desc := "(I)I" } : Jvm.MethodName)) ∈ lw_all := lw_g (lw_at lw_m8 69 rfl) rfl
theorem q1857 : (Jvm.Cond.code ({ cls := "CameraMoves", name := "removeCue", desc := "(I)I" } : Jvm.MethodName) prog_1_method_60_code (4 : Nat) (Option.some Jvm.ClassFile.FieldType.int)) ∈ lw_all := lw_g (lw_at lw_m8 70 rfl) rfl
theorem q1862 : (Jvm.Cond.instanceMethod ({ cls := "CameraMoves", name := "moveCue", desc := "(II)I" } : Jvm.MethodName)) ∈ lw_all := lw_g (lw_at lw_m8 75 rfl) rfl
theorem q1863 : (Jvm.Cond.selects "CameraMoves" ({ cls := "CameraMoves", name := "moveCue", desc := "(II)I" } : Jvm.MethodName) ({ cls := "CameraMoves", name := "moveCue", desc := "(II)I" } : Jvm.MethodName)) ∈ lw_all := lw_g (lw_at lw_m8 76 rfl) rfl
theorem q1864 : (Jvm.Cond.code ({ cls := "CameraMoves", name := "moveCue", desc := "(II)I" } : Jvm.MethodName) prog_1_method_61_code (5 : Nat) (Option.some Jvm.ClassFile.FieldType.int)) ∈ lw_all := lw_g (lw_at lw_m8 77 rfl) rfl
theorem q1869 : (Jvm.Cond.instanceMethod ({ cls := "CameraMoves", name := "setLength", desc := "(II)I" } : Jvm.MethodName)) ∈ lw_all := lw_g (lw_at lw_m8 82 rfl) rfl
theorem q1870 : (Jvm.Cond.selects "CameraMoves" ({ cls := "CameraMoves", name := "setLength", desc := "(II)I" } : Jvm.MethodName) ({ cls := "CameraMoves", name := "setLength", desc := "(II)I" } : Jvm.MethodName)) ∈ lw_all := lw_g (lw_at lw_m8 83 rfl) rfl
theorem q1871 : (Jvm.Cond.code ({ cls := "CameraMoves", name := "setLength", desc := "(II)I" } : Jvm.MethodName) prog_1_method_62_code (5 : Nat) (Option.some Jvm.ClassFile.FieldType.int)) ∈ lw_all := lw_g (lw_at lw_m8 84 rfl) rfl
theorem q1876 : (Jvm.Cond.instanceMethod ({ cls := "CameraMoves", name := "fit", desc := "(I)I" } : Jvm.MethodName)) ∈ lw_all := lw_g (lw_at lw_m8 89 rfl) rfl
theorem q1877 : (Jvm.Cond.selects "CameraMoves" ({ cls := "CameraMoves", name := "fit", desc := "(I)I" } : Jvm.MethodName) ({ cls := "CameraMoves", name := "fit", desc := "(I)I" } : Jvm.MethodName)) ∈ lw_all := lw_g (lw_at lw_m8 90 rfl) rfl
theorem q1878 : (Jvm.Cond.code ({ cls := "CameraMoves", name := "fit", desc := "(I)I" } : Jvm.MethodName) prog_1_method_63_code (4 : Nat) (Option.some Jvm.ClassFile.FieldType.int)) ∈ lw_all := lw_g (lw_at lw_m8 91 rfl) rfl
theorem q1883 : (Jvm.Cond.instanceMethod ({ cls := "CameraMoves", name := "setLimits", desc := "(III)I" } : Jvm.MethodName)) ∈ lw_all := lw_g (lw_at lw_m8 96 rfl) rfl
theorem q1884 : (Jvm.Cond.selects "CameraMoves" ({ cls := "CameraMoves", name := "setLimits", desc := "(III)I" } : Jvm.MethodName) ({ cls := "CameraMoves", name := "setLimits", desc := "(III)I" } : Jvm.MethodName)) ∈ lw_all := lw_g (lw_at lw_m8 97 rfl) rfl
theorem q1885 : (Jvm.Cond.code ({ cls := "CameraMoves", name := "setLimits", desc := "(III)I" } : Jvm.MethodName) prog_1_method_64_code (5 : Nat) (Option.some Jvm.ClassFile.FieldType.int)) ∈ lw_all := lw_g (lw_at lw_m8 98 rfl) rfl
theorem q1886 : (Jvm.Cond.constantLong "CameraMoves" (342 : Nat) (99 : Int64)) ∈ lw_all := lw_g (lw_at lw_m8 99 rfl) rfl
theorem q1887 : (Jvm.Cond.constantLong "CameraMoves" (344 : Nat) (20 : Int64)) ∈ lw_all := lw_g (lw_at lw_m8 100 rfl) rfl
theorem q1892 : (Jvm.Cond.instanceMethod ({ cls := "CameraMoves", name := "addWall", desc := "(IIIIII)I" } : Jvm.MethodName)) ∈ lw_all := lw_g (lw_at lw_m8 105 rfl) rfl
theorem q1893 : (Jvm.Cond.selects "CameraMoves" ({ cls := "CameraMoves", name := "addWall", desc := "(IIIIII)I" } : Jvm.MethodName) ({ cls := "CameraMoves", name := "addWall", desc := "(IIIIII)I" } : Jvm.MethodName)) ∈ lw_all := lw_g (lw_at lw_m8 106 rfl) rfl
theorem q1894 : (Jvm.Cond.code ({ cls := "CameraMoves", name := "addWall", desc := "(IIIIII)I" } : Jvm.MethodName) prog_1_method_66_code (9 : Nat) (Option.some Jvm.ClassFile.FieldType.int)) ∈ lw_all := lw_g (lw_at lw_m8 107 rfl) rfl
theorem q1895 : (Jvm.Cond.methodLink "CameraMoves" (350 : Nat) ({ cls := "CameraMoves", name := "requireRange", desc := "(II)V" } : Jvm.MethodName)) ∈ lw_all := lw_g (lw_at lw_m8 108 rfl) rfl
theorem q1896 : (Jvm.Cond.static ({ cls := "CameraMoves", name := "requireRange", desc := "(II)V" } : Jvm.MethodName)) ∈ lw_all := lw_g (lw_at lw_m8 109 rfl) rfl
theorem q1897 : (Jvm.Cond.code ({ cls := "CameraMoves", name := "requireRange", desc := "(II)V" } : Jvm.MethodName) prog_1_method_65_code (2 : Nat) (Option.none : Option Jvm.ClassFile.FieldType)) ∈ lw_all := lw_g (lw_at lw_m8 110 rfl) rfl
theorem q1898 : (Jvm.Cond.constantLong "CameraMoves" (346 : Nat) (-9999 : Int64)) ∈ lw_all := lw_g (lw_at lw_m8 111 rfl) rfl
theorem q1899 : (Jvm.Cond.constantLong "CameraMoves" (348 : Nat) (9999 : Int64)) ∈ lw_all := lw_g (lw_at lw_m8 112 rfl) rfl
theorem q1900 : (Jvm.Cond.methodLink "CameraMoves" (353 : Nat) ({ cls := "CameraMoves$Wall", name := "<init>", desc := "(IIIIII)V" } : Jvm.MethodName)) ∈ lw_all := lw_g (lw_at lw_m8 113 rfl) rfl
theorem q1905 : (Jvm.Cond.instanceMethod ({ cls := "CameraMoves", name := "removeWall", desc := "(I)I" } : Jvm.MethodName)) ∈ lw_all := lw_g (lw_at lw_m8 118 rfl) rfl
theorem q1906 : (Jvm.Cond.selects "CameraMoves" ({ cls := "CameraMoves", name := "removeWall", desc := "(I)I" } : Jvm.MethodName) ({ cls := "CameraMoves", name := "removeWall", desc := "(I)I" } : Jvm.MethodName)) ∈ lw_all := lw_g (lw_at lw_m8 119 rfl) rfl
theorem q1907 : (Jvm.Cond.code ({ cls := "CameraMoves", name := "removeWall", desc := "(I)I" } : Jvm.MethodName) prog_1_method_67_code (4 : Nat) (Option.some Jvm.ClassFile.FieldType.int)) ∈ lw_all := lw_g (lw_at lw_m8 120 rfl) rfl
theorem q1912 : (Jvm.Cond.instanceMethod ({ cls := "CameraMoves", name := "undo", desc := "()I" } : Jvm.MethodName)) ∈ lw_all := lw_g (lw_at lw_m8 125 rfl) rfl
theorem q1913 : (Jvm.Cond.selects "CameraMoves" ({ cls := "CameraMoves", name := "undo", desc := "()I" } : Jvm.MethodName) ({ cls := "CameraMoves", name := "undo", desc := "()I" } : Jvm.MethodName)) ∈ lw_all := lw_g (lw_at lw_m8 126 rfl) rfl
theorem q1914 : (Jvm.Cond.code ({ cls := "CameraMoves", name := "undo", desc := "()I" } : Jvm.MethodName) prog_1_method_68_code (1 : Nat) (Option.some Jvm.ClassFile.FieldType.int)) ∈ lw_all := lw_g (lw_at lw_m8 127 rfl) rfl
theorem q1915 : (Jvm.Cond.methodLink "CameraMoves" (356 : Nat) ({ cls := "java/util/ArrayDeque", name := "isEmpty", desc := "()Z" } : Jvm.MethodName)) ∈ lw_all := lw_g (lw_at lw_m8 128 rfl) rfl
theorem q1919 : (Jvm.Cond.methodLink "CameraMoves" (360 : Nat) ({ cls := "java/util/ArrayDeque", name := "removeLast", desc := "()Ljava/lang/Object;" } : Jvm.MethodName)) ∈ lw_all := lw_g (lw_at lw_m8 132 rfl) rfl
theorem q1934 : (Jvm.Cond.instanceMethod ({ cls := "CameraMoves", name := "format", desc := "(I)I" } : Jvm.MethodName)) ∈ lw_all := lw_g (lw_at lw_m8 147 rfl) rfl
theorem q1935 : (Jvm.Cond.selects "CameraMoves" ({ cls := "CameraMoves", name := "format", desc := "(I)I" } : Jvm.MethodName) ({ cls := "CameraMoves", name := "format", desc := "(I)I" } : Jvm.MethodName)) ∈ lw_all := lw_g (lw_at lw_m8 148 rfl) rfl
theorem q1936 : (Jvm.Cond.code ({ cls := "CameraMoves", name := "format", desc := "(I)I" } : Jvm.MethodName) prog_1_method_69_code (5 : Nat) (Option.some Jvm.ClassFile.FieldType.int)) ∈ lw_all := lw_g (lw_at lw_m8 149 rfl) rfl
theorem q1937 : (Jvm.Cond.methodLink "CameraMoves" (363 : Nat) ({ cls := "java/lang/StringBuilder", name := "setLength", desc := "(I)V" } : Jvm.MethodName)) ∈ lw_all := lw_g (lw_at lw_m8 150 rfl) rfl
theorem q1989 : (Jvm.Cond.stringRef "CameraMoves" (366 : Nat) "") ∈ lw_tbl := lw_at lw_m8 202 rfl
theorem q1990 : (Jvm.Cond.stringRef "CameraMoves" (368 : Nat) "; ") ∈ lw_tbl := lw_at lw_m8 203 rfl
theorem q1991 : (Jvm.Cond.methodLink "CameraMoves" (370 : Nat) ({ cls := "java/lang/StringBuilder", name := "append", desc := "(Ljava/lang/String;)Ljava/lang/StringBuilder;" } : Jvm.MethodName)) ∈ lw_all := lw_g (lw_at lw_m8 204 rfl) rfl
theorem q1992 : (Jvm.Cond.methodLink "CameraMoves" (378 : Nat) ({ cls := "java/lang/StringBuilder", name := "append", desc := "(C)Ljava/lang/StringBuilder;" } : Jvm.MethodName)) ∈ lw_all := lw_g (lw_at lw_m8 205 rfl) rfl
theorem q1993 : (Jvm.Cond.methodLink "CameraMoves" (381 : Nat) ({ cls := "java/lang/StringBuilder", name := "append", desc := "(I)Ljava/lang/StringBuilder;" } : Jvm.MethodName)) ∈ lw_all := lw_g (lw_at lw_m8 206 rfl) rfl
theorem q1994 : (Jvm.Cond.stringRef "CameraMoves" (384 : Nat) " !") ∈ lw_tbl := lw_at lw_m8 207 rfl
theorem q1995 : (Jvm.Cond.methodLink "CameraMoves" (386 : Nat) ({ cls := "java/lang/StringBuilder", name := "length", desc := "()I" } : Jvm.MethodName)) ∈ lw_all := lw_g (lw_at lw_m8 208 rfl) rfl
theorem q2000 : (Jvm.Cond.instanceMethod ({ cls := "CameraMoves", name := "formattedCharacter", desc := "(I)C" } : Jvm.MethodName)) ∈ lw_all := lw_g (lw_at lw_m8 213 rfl) rfl
theorem q2001 : (Jvm.Cond.selects "CameraMoves" ({ cls := "CameraMoves", name := "formattedCharacter", desc := "(I)C" } : Jvm.MethodName) ({ cls := "CameraMoves", name := "formattedCharacter", desc := "(I)C" } : Jvm.MethodName)) ∈ lw_all := lw_g (lw_at lw_m8 214 rfl) rfl
theorem q2002 : (Jvm.Cond.code ({ cls := "CameraMoves", name := "formattedCharacter", desc := "(I)C" } : Jvm.MethodName) prog_1_method_70_code (2 : Nat) (Option.some Jvm.ClassFile.FieldType.char)) ∈ lw_all := lw_g (lw_at lw_m8 215 rfl) rfl
theorem q2003 : (Jvm.Cond.methodLink "CameraMoves" (388 : Nat) ({ cls := "java/lang/StringBuilder", name := "charAt", desc := "(I)C" } : Jvm.MethodName)) ∈ lw_all := lw_g (lw_at lw_m8 216 rfl) rfl
theorem q2670 : (Jvm.Cond.castable "CameraMoves" "java/lang/Object") ∈ lw_tbl := lw_at lw_m11 163 rfl
theorem in_X1 : ∀ w ∈ wsX10, w ∈ lw_all := lw_in wsX10 [599, 601, 603, 605, 607, 609, 611] (by decide +kernel) (by decide +kernel)

/-! CameraMoves$Pass -/
set_option maxRecDepth 100000
def RX10 : String := "CameraMoves$Pass"
def TX10 : u_T := fun k => match k with
  | 0 => ("CameraMoves$Pass", "num", "I", true)
  | 1 => ("CameraMoves$Pass", "den", "I", true)
  | _ => ("CameraMoves$Pass", "shift", "I", true)
def tyX10 : Nat → FieldType := fun k => match k with
  | 0 => .int
  | 1 => .int
  | _ => .int
abbrev wsX100 : List Cond := u_ws RX10 TX10 3
theorem nmX10 : ∀ a, a < 3 → ∀ b, b < 3 → a ≠ b → (TX10 a).2.1 ≠ (TX10 b).2.1 := by decide +kernel
theorem tyX10_ok : ∀ k, k < 3 → parseFieldDescriptor (TX10 k).2.2.1 = some (tyX10 k) := by decide +kernel
abbrev cX10_init : ByteArray := prog_10_method_1_code
def yX10_init : MethodName := ⟨RX10, "<init>", "(III)V"⟩
def dkwX10_init_0 : List UInt8 := [42, 183, 0, 3, 42, 27, 181, 0, 9, 42, 28, 181, 0, 15, 42, 29, 181, 0, 18, 177]
abbrev dktX10_init_0 : List UInt8 := dkwX10_init_0 ++ []
theorem dksX10_init_0 : cX10_init.data.toList.drop 0 = dktX10_init_0 := by decide +kernel
theorem dX10_init_0 : decode cX10_init 0 = .ok (.aload_n 0, 1) := dk_42 (dk_at dksX10_init_0 0 rfl rfl)
theorem dX10_init_1 : decode cX10_init 1 = .ok (.invokespecial 3, 3) := dk_183 0 3 (dk_at dksX10_init_0 1 rfl rfl)
theorem dX10_init_4 : decode cX10_init 4 = .ok (.aload_n 0, 1) := dk_42 (dk_at dksX10_init_0 4 rfl rfl)
theorem dX10_init_5 : decode cX10_init 5 = .ok (.iload_n 1, 1) := dk_27 (dk_at dksX10_init_0 5 rfl rfl)
theorem dX10_init_6 : decode cX10_init 6 = .ok (.putfield 9, 3) := dk_181 0 9 (dk_at dksX10_init_0 6 rfl rfl)
theorem dX10_init_9 : decode cX10_init 9 = .ok (.aload_n 0, 1) := dk_42 (dk_at dksX10_init_0 9 rfl rfl)
theorem dX10_init_10 : decode cX10_init 10 = .ok (.iload_n 2, 1) := dk_28 (dk_at dksX10_init_0 10 rfl rfl)
theorem dX10_init_11 : decode cX10_init 11 = .ok (.putfield 15, 3) := dk_181 0 15 (dk_at dksX10_init_0 11 rfl rfl)
theorem dX10_init_14 : decode cX10_init 14 = .ok (.aload_n 0, 1) := dk_42 (dk_at dksX10_init_0 14 rfl rfl)
theorem dX10_init_15 : decode cX10_init 15 = .ok (.iload_n 3, 1) := dk_29 (dk_at dksX10_init_0 15 rfl rfl)
theorem dX10_init_16 : decode cX10_init 16 = .ok (.putfield 18, 3) := dk_181 0 18 (dk_at dksX10_init_0 16 rfl rfl)
theorem dX10_init_19 : decode cX10_init 19 = .ok (.return_, 1) := dk_177 (dk_at dksX10_init_0 19 rfl rfl)
abbrev cX10_shown : ByteArray := prog_10_method_2_code
def yX10_shown : MethodName := ⟨RX10, "shown", "(I)I"⟩
def dkwX10_shown_1 : List UInt8 := [180, 0, 9, 104, 42, 180, 0, 15, 108, 184, 0, 21, 172]
abbrev dktX10_shown_1 : List UInt8 := dkwX10_shown_1 ++ []
def dkwX10_shown_0 : List UInt8 := [27, 42, 180, 0, 18, 162, 0, 7, 3, 167, 0, 25, 17, 3, 231, 27, 42, 180, 0, 18, 100, 42]
abbrev dktX10_shown_0 : List UInt8 := dkwX10_shown_0 ++ dktX10_shown_1
theorem dksX10_shown_0 : cX10_shown.data.toList.drop 0 = dktX10_shown_0 := by decide +kernel
theorem dksX10_shown_1 : cX10_shown.data.toList.drop 22 = dktX10_shown_1 := dk_seg dksX10_shown_0 22 rfl rfl
theorem dX10_shown_0 : decode cX10_shown 0 = .ok (.iload_n 1, 1) := dk_27 (dk_at dksX10_shown_0 0 rfl rfl)
theorem dX10_shown_1 : decode cX10_shown 1 = .ok (.aload_n 0, 1) := dk_42 (dk_at dksX10_shown_0 1 rfl rfl)
theorem dX10_shown_2 : decode cX10_shown 2 = .ok (.getfield 18, 3) := dk_180 0 18 (dk_at dksX10_shown_0 2 rfl rfl)
theorem dX10_shown_5 : decode cX10_shown 5 = .ok (.if_icmp .ge 7, 3) := dk_162 0 7 (dk_at dksX10_shown_0 5 rfl rfl)
theorem dX10_shown_8 : decode cX10_shown 8 = .ok (.iconst 0, 1) := dk_3 (dk_at dksX10_shown_0 8 rfl rfl)
theorem dX10_shown_9 : decode cX10_shown 9 = .ok (.goto 25, 3) := dk_167 0 25 (dk_at dksX10_shown_0 9 rfl rfl)
theorem dX10_shown_12 : decode cX10_shown 12 = .ok (.sipush 999, 3) := dk_17 3 231 (dk_at dksX10_shown_0 12 rfl rfl)
theorem dX10_shown_15 : decode cX10_shown 15 = .ok (.iload_n 1, 1) := dk_27 (dk_at dksX10_shown_0 15 rfl rfl)
theorem dX10_shown_16 : decode cX10_shown 16 = .ok (.aload_n 0, 1) := dk_42 (dk_at dksX10_shown_0 16 rfl rfl)
theorem dX10_shown_17 : decode cX10_shown 17 = .ok (.getfield 18, 3) := dk_180 0 18 (dk_at dksX10_shown_0 17 rfl rfl)
theorem dX10_shown_20 : decode cX10_shown 20 = .ok (.isub, 1) := dk_100 (dk_at dksX10_shown_0 20 rfl rfl)
theorem dX10_shown_21 : decode cX10_shown 21 = .ok (.aload_n 0, 1) := dk_42 (dk_at dksX10_shown_0 21 rfl rfl)
theorem dX10_shown_22 : decode cX10_shown 22 = .ok (.getfield 9, 3) := dk_180 0 9 (dk_at dksX10_shown_1 0 rfl rfl)
theorem dX10_shown_25 : decode cX10_shown 25 = .ok (.imul, 1) := dk_104 (dk_at dksX10_shown_1 3 rfl rfl)
theorem dX10_shown_26 : decode cX10_shown 26 = .ok (.aload_n 0, 1) := dk_42 (dk_at dksX10_shown_1 4 rfl rfl)
theorem dX10_shown_27 : decode cX10_shown 27 = .ok (.getfield 15, 3) := dk_180 0 15 (dk_at dksX10_shown_1 5 rfl rfl)
theorem dX10_shown_30 : decode cX10_shown 30 = .ok (.idiv, 1) := dk_108 (dk_at dksX10_shown_1 8 rfl rfl)
theorem dX10_shown_31 : decode cX10_shown 31 = .ok (.invokestatic 21, 3) := dk_184 0 21 (dk_at dksX10_shown_1 9 rfl rfl)
theorem dX10_shown_34 : decode cX10_shown 34 = .ok (.ireturn, 1) := dk_172 (dk_at dksX10_shown_1 12 rfl rfl)
theorem q139 : (Jvm.Cond.initialized "CameraMoves$Pass") ∈ lw_all := lw_g (lw_at lw_m1 32 rfl) rfl
theorem q1211 : (Jvm.Cond.selects "CameraMoves$Pass" ({ cls := "java/lang/Object", name := "getClass", desc := "()Ljava/lang/Class;" } : Jvm.MethodName) ({ cls := "java/lang/Object", name := "getClass", desc := "()Ljava/lang/Class;" } : Jvm.MethodName)) ∈ lw_all := lw_g (lw_at lw_m5 144 rfl) rfl
theorem q1317 : (Jvm.Cond.instantiable "CameraMoves$Pass" (3 : Nat)) ∈ lw_all := lw_g (lw_at lw_m6 10 rfl) rfl
theorem q1319 : (Jvm.Cond.instanceMethod ({ cls := "CameraMoves$Pass", name := "<init>", desc := "(III)V" } : Jvm.MethodName)) ∈ lw_all := lw_g (lw_at lw_m6 12 rfl) rfl
theorem q1320 : (Jvm.Cond.code ({ cls := "CameraMoves$Pass", name := "<init>", desc := "(III)V" } : Jvm.MethodName) prog_10_method_1_code (4 : Nat) (Option.none : Option Jvm.ClassFile.FieldType)) ∈ lw_all := lw_g (lw_at lw_m6 13 rfl) rfl
theorem q1321 : (Jvm.Cond.methodLink "CameraMoves$Pass" (3 : Nat) ({ cls := "java/lang/Object", name := "<init>", desc := "()V" } : Jvm.MethodName)) ∈ lw_all := lw_g (lw_at lw_m6 14 rfl) rfl
theorem q1322 : (Jvm.Cond.fieldLink "CameraMoves$Pass" (9 : Nat) "CameraMoves$Pass" "num" "I") ∈ lw_all := lw_g (lw_at lw_m6 15 rfl) rfl
theorem q1324 : (Jvm.Cond.fieldLink "CameraMoves$Pass" (15 : Nat) "CameraMoves$Pass" "den" "I") ∈ lw_all := lw_g (lw_at lw_m6 17 rfl) rfl
theorem q1325 : (Jvm.Cond.fieldLink "CameraMoves$Pass" (18 : Nat) "CameraMoves$Pass" "shift" "I") ∈ lw_all := lw_g (lw_at lw_m6 18 rfl) rfl
theorem q1327 : (Jvm.Cond.laysFinal "CameraMoves$Pass" "CameraMoves$Pass" "num" "I") ∈ lw_all := lw_g (lw_at lw_m6 20 rfl) rfl
theorem q1328 : (Jvm.Cond.soleField "CameraMoves$Pass" "num") ∈ lw_all := lw_g (lw_at lw_m6 21 rfl) rfl
theorem q1329 : (Jvm.Cond.laysFinal "CameraMoves$Pass" "CameraMoves$Pass" "den" "I") ∈ lw_all := lw_g (lw_at lw_m6 22 rfl) rfl
theorem q1330 : (Jvm.Cond.soleField "CameraMoves$Pass" "den") ∈ lw_all := lw_g (lw_at lw_m6 23 rfl) rfl
theorem q1331 : (Jvm.Cond.laysFinal "CameraMoves$Pass" "CameraMoves$Pass" "shift" "I") ∈ lw_all := lw_g (lw_at lw_m6 24 rfl) rfl
theorem q1332 : (Jvm.Cond.soleField "CameraMoves$Pass" "shift") ∈ lw_all := lw_g (lw_at lw_m6 25 rfl) rfl
theorem q1333 : (Jvm.Cond.superclass "CameraMoves$Pass" "java/lang/Object") ∈ lw_all := lw_g (lw_at lw_m6 26 rfl) rfl
theorem q1633 : (Jvm.Cond.instanceMethod ({ cls := "CameraMoves$Pass", name := "shown", desc := "(I)I" } : Jvm.MethodName)) ∈ lw_all := lw_g (lw_at lw_m7 86 rfl) rfl
theorem q1634 : (Jvm.Cond.selects "CameraMoves$Pass" ({ cls := "CameraMoves$Pass", name := "shown", desc := "(I)I" } : Jvm.MethodName) ({ cls := "CameraMoves$Pass", name := "shown", desc := "(I)I" } : Jvm.MethodName)) ∈ lw_all := lw_g (lw_at lw_m7 87 rfl) rfl
theorem q1635 : (Jvm.Cond.code ({ cls := "CameraMoves$Pass", name := "shown", desc := "(I)I" } : Jvm.MethodName) prog_10_method_2_code (2 : Nat) (Option.some Jvm.ClassFile.FieldType.int)) ∈ lw_all := lw_g (lw_at lw_m7 88 rfl) rfl
theorem q1636 : (Jvm.Cond.methodLink "CameraMoves$Pass" (21 : Nat) ({ cls := "java/lang/Math", name := "min", desc := "(II)I" } : Jvm.MethodName)) ∈ lw_all := lw_g (lw_at lw_m7 89 rfl) rfl
theorem q2686 : (Jvm.Cond.castable "CameraMoves$Pass" "java/lang/Object") ∈ lw_tbl := lw_at lw_m11 179 rfl
theorem in_X10 : ∀ w ∈ wsX100, w ∈ lw_all := lw_in wsX100 [1327, 1329, 1331] (by decide +kernel) (by decide +kernel)

/-! CameraMoves$Ramp -/
set_option maxRecDepth 100000
def RX11 : String := "CameraMoves$Ramp"
def TX11 : u_T := fun k => match k with
  | 0 => ("CameraMoves$Ramp", "axis", "LCameraMoves$Axis;", true)
  | 1 => ("CameraMoves$Ramp", "frames", "I", true)
  | 2 => ("CameraMoves$Ramp", "sign", "I", true)
  | 3 => ("CameraMoves$Ramp", "peak", "I", true)
  | _ => ("CameraMoves$Ramp", "excess", "I", true)
def tyX11 : Nat → FieldType := fun k => match k with
  | 0 => .object "CameraMoves$Axis"
  | 1 => .int
  | 2 => .int
  | 3 => .int
  | _ => .int
abbrev wsX110 : List Cond := u_ws RX11 TX11 5
theorem nmX11 : ∀ a, a < 5 → ∀ b, b < 5 → a ≠ b → (TX11 a).2.1 ≠ (TX11 b).2.1 := by decide +kernel
theorem tyX11_ok : ∀ k, k < 5 → parseFieldDescriptor (TX11 k).2.2.1 = some (tyX11 k) := by decide +kernel
abbrev cX11_init : ByteArray := prog_13_method_1_code
def yX11_init : MethodName := ⟨RX11, "<init>", "(LCameraMoves$Axis;II)V"⟩
def dkwX11_init_2 : List UInt8 := [21, 4, 181, 0, 37, 42, 43, 29, 21, 4, 182, 0, 26, 28, 184, 0, 32, 100, 181, 0, 40, 177]
abbrev dktX11_init_2 : List UInt8 := dkwX11_init_2 ++ []
def dkwX11_init_1 : List UInt8 := [54, 4, 43, 29, 21, 4, 182, 0, 26, 28, 184, 0, 32, 162, 0, 9, 132, 4, 1, 167, 255, 239, 42]
abbrev dktX11_init_1 : List UInt8 := dkwX11_init_1 ++ dktX11_init_2
def dkwX11_init_0 : List UInt8 := [42, 183, 0, 1, 42, 43, 181, 0, 7, 42, 29, 181, 0, 13, 42, 28, 184, 0, 17, 181, 0, 23, 3]
abbrev dktX11_init_0 : List UInt8 := dkwX11_init_0 ++ dktX11_init_1
theorem dksX11_init_0 : cX11_init.data.toList.drop 0 = dktX11_init_0 := by decide +kernel
theorem dksX11_init_1 : cX11_init.data.toList.drop 23 = dktX11_init_1 := dk_seg dksX11_init_0 23 rfl rfl
theorem dksX11_init_2 : cX11_init.data.toList.drop 46 = dktX11_init_2 := dk_seg dksX11_init_1 23 rfl rfl
theorem dX11_init_0 : decode cX11_init 0 = .ok (.aload_n 0, 1) := dk_42 (dk_at dksX11_init_0 0 rfl rfl)
theorem dX11_init_1 : decode cX11_init 1 = .ok (.invokespecial 1, 3) := dk_183 0 1 (dk_at dksX11_init_0 1 rfl rfl)
theorem dX11_init_4 : decode cX11_init 4 = .ok (.aload_n 0, 1) := dk_42 (dk_at dksX11_init_0 4 rfl rfl)
theorem dX11_init_5 : decode cX11_init 5 = .ok (.aload_n 1, 1) := dk_43 (dk_at dksX11_init_0 5 rfl rfl)
theorem dX11_init_6 : decode cX11_init 6 = .ok (.putfield 7, 3) := dk_181 0 7 (dk_at dksX11_init_0 6 rfl rfl)
theorem dX11_init_9 : decode cX11_init 9 = .ok (.aload_n 0, 1) := dk_42 (dk_at dksX11_init_0 9 rfl rfl)
theorem dX11_init_10 : decode cX11_init 10 = .ok (.iload_n 3, 1) := dk_29 (dk_at dksX11_init_0 10 rfl rfl)
theorem dX11_init_11 : decode cX11_init 11 = .ok (.putfield 13, 3) := dk_181 0 13 (dk_at dksX11_init_0 11 rfl rfl)
theorem dX11_init_14 : decode cX11_init 14 = .ok (.aload_n 0, 1) := dk_42 (dk_at dksX11_init_0 14 rfl rfl)
theorem dX11_init_15 : decode cX11_init 15 = .ok (.iload_n 2, 1) := dk_28 (dk_at dksX11_init_0 15 rfl rfl)
theorem dX11_init_16 : decode cX11_init 16 = .ok (.invokestatic 17, 3) := dk_184 0 17 (dk_at dksX11_init_0 16 rfl rfl)
theorem dX11_init_19 : decode cX11_init 19 = .ok (.putfield 23, 3) := dk_181 0 23 (dk_at dksX11_init_0 19 rfl rfl)
theorem dX11_init_22 : decode cX11_init 22 = .ok (.iconst 0, 1) := dk_3 (dk_at dksX11_init_0 22 rfl rfl)
theorem dX11_init_23 : decode cX11_init 23 = .ok (.istore 4, 2) := dk_54 4 (dk_at dksX11_init_1 0 rfl rfl)
theorem dX11_init_25 : decode cX11_init 25 = .ok (.aload_n 1, 1) := dk_43 (dk_at dksX11_init_1 2 rfl rfl)
theorem dX11_init_26 : decode cX11_init 26 = .ok (.iload_n 3, 1) := dk_29 (dk_at dksX11_init_1 3 rfl rfl)
theorem dX11_init_27 : decode cX11_init 27 = .ok (.iload 4, 2) := dk_21 4 (dk_at dksX11_init_1 4 rfl rfl)
theorem dX11_init_29 : decode cX11_init 29 = .ok (.invokevirtual 26, 3) := dk_182 0 26 (dk_at dksX11_init_1 6 rfl rfl)
theorem dX11_init_32 : decode cX11_init 32 = .ok (.iload_n 2, 1) := dk_28 (dk_at dksX11_init_1 9 rfl rfl)
theorem dX11_init_33 : decode cX11_init 33 = .ok (.invokestatic 32, 3) := dk_184 0 32 (dk_at dksX11_init_1 10 rfl rfl)
theorem dX11_init_36 : decode cX11_init 36 = .ok (.if_icmp .ge 9, 3) := dk_162 0 9 (dk_at dksX11_init_1 13 rfl rfl)
theorem dX11_init_39 : decode cX11_init 39 = .ok (.iinc 4 1, 3) := dk_132 4 1 (dk_at dksX11_init_1 16 rfl rfl)
theorem dX11_init_42 : decode cX11_init 42 = .ok (.goto (-17), 3) := dk_167 255 239 (dk_at dksX11_init_1 19 rfl rfl)
theorem dX11_init_45 : decode cX11_init 45 = .ok (.aload_n 0, 1) := dk_42 (dk_at dksX11_init_1 22 rfl rfl)
theorem dX11_init_46 : decode cX11_init 46 = .ok (.iload 4, 2) := dk_21 4 (dk_at dksX11_init_2 0 rfl rfl)
theorem dX11_init_48 : decode cX11_init 48 = .ok (.putfield 37, 3) := dk_181 0 37 (dk_at dksX11_init_2 2 rfl rfl)
theorem dX11_init_51 : decode cX11_init 51 = .ok (.aload_n 0, 1) := dk_42 (dk_at dksX11_init_2 5 rfl rfl)
theorem dX11_init_52 : decode cX11_init 52 = .ok (.aload_n 1, 1) := dk_43 (dk_at dksX11_init_2 6 rfl rfl)
theorem dX11_init_53 : decode cX11_init 53 = .ok (.iload_n 3, 1) := dk_29 (dk_at dksX11_init_2 7 rfl rfl)
theorem dX11_init_54 : decode cX11_init 54 = .ok (.iload 4, 2) := dk_21 4 (dk_at dksX11_init_2 8 rfl rfl)
theorem dX11_init_56 : decode cX11_init 56 = .ok (.invokevirtual 26, 3) := dk_182 0 26 (dk_at dksX11_init_2 10 rfl rfl)
theorem dX11_init_59 : decode cX11_init 59 = .ok (.iload_n 2, 1) := dk_28 (dk_at dksX11_init_2 13 rfl rfl)
theorem dX11_init_60 : decode cX11_init 60 = .ok (.invokestatic 32, 3) := dk_184 0 32 (dk_at dksX11_init_2 14 rfl rfl)
theorem dX11_init_63 : decode cX11_init 63 = .ok (.isub, 1) := dk_100 (dk_at dksX11_init_2 17 rfl rfl)
theorem dX11_init_64 : decode cX11_init 64 = .ok (.putfield 40, 3) := dk_181 0 40 (dk_at dksX11_init_2 18 rfl rfl)
theorem dX11_init_67 : decode cX11_init 67 = .ok (.return_, 1) := dk_177 (dk_at dksX11_init_2 21 rfl rfl)
abbrev cX11_speed : ByteArray := prog_13_method_4_code
def yX11_speed : MethodName := ⟨RX11, "speed", "(I)I"⟩
def dkwX11_speed_2 : List UInt8 := [153, 0, 7, 4, 167, 0, 4, 3, 100, 104, 172]
abbrev dktX11_speed_2 : List UInt8 := dkwX11_speed_2 ++ []
def dkwX11_speed_1 : List UInt8 := [42, 180, 0, 40, 163, 0, 7, 4, 167, 0, 4, 3, 61, 42, 180, 0, 23, 42, 27, 182, 0, 52, 28]
abbrev dktX11_speed_1 : List UInt8 := dkwX11_speed_1 ++ dktX11_speed_2
def dkwX11_speed_0 : List UInt8 := [42, 180, 0, 37, 158, 0, 31, 42, 27, 182, 0, 52, 42, 180, 0, 37, 160, 0, 19, 42, 27, 182, 0, 55]
abbrev dktX11_speed_0 : List UInt8 := dkwX11_speed_0 ++ dktX11_speed_1
theorem dksX11_speed_0 : cX11_speed.data.toList.drop 0 = dktX11_speed_0 := by decide +kernel
theorem dksX11_speed_1 : cX11_speed.data.toList.drop 24 = dktX11_speed_1 := dk_seg dksX11_speed_0 24 rfl rfl
theorem dksX11_speed_2 : cX11_speed.data.toList.drop 47 = dktX11_speed_2 := dk_seg dksX11_speed_1 23 rfl rfl
theorem dX11_speed_0 : decode cX11_speed 0 = .ok (.aload_n 0, 1) := dk_42 (dk_at dksX11_speed_0 0 rfl rfl)
theorem dX11_speed_1 : decode cX11_speed 1 = .ok (.getfield 37, 3) := dk_180 0 37 (dk_at dksX11_speed_0 1 rfl rfl)
theorem dX11_speed_4 : decode cX11_speed 4 = .ok (.ifCond .le 31, 3) := dk_158 0 31 (dk_at dksX11_speed_0 4 rfl rfl)
theorem dX11_speed_7 : decode cX11_speed 7 = .ok (.aload_n 0, 1) := dk_42 (dk_at dksX11_speed_0 7 rfl rfl)
theorem dX11_speed_8 : decode cX11_speed 8 = .ok (.iload_n 1, 1) := dk_27 (dk_at dksX11_speed_0 8 rfl rfl)
theorem dX11_speed_9 : decode cX11_speed 9 = .ok (.invokevirtual 52, 3) := dk_182 0 52 (dk_at dksX11_speed_0 9 rfl rfl)
theorem dX11_speed_12 : decode cX11_speed 12 = .ok (.aload_n 0, 1) := dk_42 (dk_at dksX11_speed_0 12 rfl rfl)
theorem dX11_speed_13 : decode cX11_speed 13 = .ok (.getfield 37, 3) := dk_180 0 37 (dk_at dksX11_speed_0 13 rfl rfl)
theorem dX11_speed_16 : decode cX11_speed 16 = .ok (.if_icmp .ne 19, 3) := dk_160 0 19 (dk_at dksX11_speed_0 16 rfl rfl)
theorem dX11_speed_19 : decode cX11_speed 19 = .ok (.aload_n 0, 1) := dk_42 (dk_at dksX11_speed_0 19 rfl rfl)
theorem dX11_speed_20 : decode cX11_speed 20 = .ok (.iload_n 1, 1) := dk_27 (dk_at dksX11_speed_0 20 rfl rfl)
theorem dX11_speed_21 : decode cX11_speed 21 = .ok (.invokevirtual 55, 3) := dk_182 0 55 (dk_at dksX11_speed_0 21 rfl rfl)
theorem dX11_speed_24 : decode cX11_speed 24 = .ok (.aload_n 0, 1) := dk_42 (dk_at dksX11_speed_1 0 rfl rfl)
theorem dX11_speed_25 : decode cX11_speed 25 = .ok (.getfield 40, 3) := dk_180 0 40 (dk_at dksX11_speed_1 1 rfl rfl)
theorem dX11_speed_28 : decode cX11_speed 28 = .ok (.if_icmp .gt 7, 3) := dk_163 0 7 (dk_at dksX11_speed_1 4 rfl rfl)
theorem dX11_speed_31 : decode cX11_speed 31 = .ok (.iconst 1, 1) := dk_4 (dk_at dksX11_speed_1 7 rfl rfl)
theorem dX11_speed_32 : decode cX11_speed 32 = .ok (.goto 4, 3) := dk_167 0 4 (dk_at dksX11_speed_1 8 rfl rfl)
theorem dX11_speed_35 : decode cX11_speed 35 = .ok (.iconst 0, 1) := dk_3 (dk_at dksX11_speed_1 11 rfl rfl)
theorem dX11_speed_36 : decode cX11_speed 36 = .ok (.istore_n 2, 1) := dk_61 (dk_at dksX11_speed_1 12 rfl rfl)
theorem dX11_speed_37 : decode cX11_speed 37 = .ok (.aload_n 0, 1) := dk_42 (dk_at dksX11_speed_1 13 rfl rfl)
theorem dX11_speed_38 : decode cX11_speed 38 = .ok (.getfield 23, 3) := dk_180 0 23 (dk_at dksX11_speed_1 14 rfl rfl)
theorem dX11_speed_41 : decode cX11_speed 41 = .ok (.aload_n 0, 1) := dk_42 (dk_at dksX11_speed_1 17 rfl rfl)
theorem dX11_speed_42 : decode cX11_speed 42 = .ok (.iload_n 1, 1) := dk_27 (dk_at dksX11_speed_1 18 rfl rfl)
theorem dX11_speed_43 : decode cX11_speed 43 = .ok (.invokevirtual 52, 3) := dk_182 0 52 (dk_at dksX11_speed_1 19 rfl rfl)
theorem dX11_speed_46 : decode cX11_speed 46 = .ok (.iload_n 2, 1) := dk_28 (dk_at dksX11_speed_1 22 rfl rfl)
theorem dX11_speed_47 : decode cX11_speed 47 = .ok (.ifCond .eq 7, 3) := dk_153 0 7 (dk_at dksX11_speed_2 0 rfl rfl)
theorem dX11_speed_50 : decode cX11_speed 50 = .ok (.iconst 1, 1) := dk_4 (dk_at dksX11_speed_2 3 rfl rfl)
theorem dX11_speed_51 : decode cX11_speed 51 = .ok (.goto 4, 3) := dk_167 0 4 (dk_at dksX11_speed_2 4 rfl rfl)
theorem dX11_speed_54 : decode cX11_speed 54 = .ok (.iconst 0, 1) := dk_3 (dk_at dksX11_speed_2 7 rfl rfl)
theorem dX11_speed_55 : decode cX11_speed 55 = .ok (.isub, 1) := dk_100 (dk_at dksX11_speed_2 8 rfl rfl)
theorem dX11_speed_56 : decode cX11_speed 56 = .ok (.imul, 1) := dk_104 (dk_at dksX11_speed_2 9 rfl rfl)
theorem dX11_speed_57 : decode cX11_speed 57 = .ok (.ireturn, 1) := dk_172 (dk_at dksX11_speed_2 10 rfl rfl)
abbrev cX11_smaller : ByteArray := prog_13_method_2_code
def yX11_smaller : MethodName := ⟨RX11, "smaller", "(I)I"⟩
def dkwX11_smaller_1 : List UInt8 := [184, 0, 46, 172]
abbrev dktX11_smaller_1 : List UInt8 := dkwX11_smaller_1 ++ []
def dkwX11_smaller_0 : List UInt8 := [42, 180, 0, 37, 42, 180, 0, 7, 180, 0, 43, 27, 42, 180, 0, 13, 4, 96, 27, 100, 184, 0, 46, 104]
abbrev dktX11_smaller_0 : List UInt8 := dkwX11_smaller_0 ++ dktX11_smaller_1
theorem dksX11_smaller_0 : cX11_smaller.data.toList.drop 0 = dktX11_smaller_0 := by decide +kernel
theorem dksX11_smaller_1 : cX11_smaller.data.toList.drop 24 = dktX11_smaller_1 := dk_seg dksX11_smaller_0 24 rfl rfl
theorem dX11_smaller_0 : decode cX11_smaller 0 = .ok (.aload_n 0, 1) := dk_42 (dk_at dksX11_smaller_0 0 rfl rfl)
theorem dX11_smaller_1 : decode cX11_smaller 1 = .ok (.getfield 37, 3) := dk_180 0 37 (dk_at dksX11_smaller_0 1 rfl rfl)
theorem dX11_smaller_4 : decode cX11_smaller 4 = .ok (.aload_n 0, 1) := dk_42 (dk_at dksX11_smaller_0 4 rfl rfl)
theorem dX11_smaller_5 : decode cX11_smaller 5 = .ok (.getfield 7, 3) := dk_180 0 7 (dk_at dksX11_smaller_0 5 rfl rfl)
theorem dX11_smaller_8 : decode cX11_smaller 8 = .ok (.getfield 43, 3) := dk_180 0 43 (dk_at dksX11_smaller_0 8 rfl rfl)
theorem dX11_smaller_11 : decode cX11_smaller 11 = .ok (.iload_n 1, 1) := dk_27 (dk_at dksX11_smaller_0 11 rfl rfl)
theorem dX11_smaller_12 : decode cX11_smaller 12 = .ok (.aload_n 0, 1) := dk_42 (dk_at dksX11_smaller_0 12 rfl rfl)
theorem dX11_smaller_13 : decode cX11_smaller 13 = .ok (.getfield 13, 3) := dk_180 0 13 (dk_at dksX11_smaller_0 13 rfl rfl)
theorem dX11_smaller_16 : decode cX11_smaller 16 = .ok (.iconst 1, 1) := dk_4 (dk_at dksX11_smaller_0 16 rfl rfl)
theorem dX11_smaller_17 : decode cX11_smaller 17 = .ok (.iadd, 1) := dk_96 (dk_at dksX11_smaller_0 17 rfl rfl)
theorem dX11_smaller_18 : decode cX11_smaller 18 = .ok (.iload_n 1, 1) := dk_27 (dk_at dksX11_smaller_0 18 rfl rfl)
theorem dX11_smaller_19 : decode cX11_smaller 19 = .ok (.isub, 1) := dk_100 (dk_at dksX11_smaller_0 19 rfl rfl)
theorem dX11_smaller_20 : decode cX11_smaller 20 = .ok (.invokestatic 46, 3) := dk_184 0 46 (dk_at dksX11_smaller_0 20 rfl rfl)
theorem dX11_smaller_23 : decode cX11_smaller 23 = .ok (.imul, 1) := dk_104 (dk_at dksX11_smaller_0 23 rfl rfl)
theorem dX11_smaller_24 : decode cX11_smaller 24 = .ok (.invokestatic 46, 3) := dk_184 0 46 (dk_at dksX11_smaller_1 0 rfl rfl)
theorem dX11_smaller_27 : decode cX11_smaller 27 = .ok (.ireturn, 1) := dk_172 (dk_at dksX11_smaller_1 3 rfl rfl)
abbrev cX11_peaks : ByteArray := prog_13_method_3_code
def yX11_peaks : MethodName := ⟨RX11, "peaks", "(I)I"⟩
def dkwX11_peaks_1 : List UInt8 := [27, 42, 180, 0, 13, 4, 96, 28, 100, 184, 0, 46, 28, 100, 4, 96, 184, 0, 49, 172]
abbrev dktX11_peaks_1 : List UInt8 := dkwX11_peaks_1 ++ []
def dkwX11_peaks_0 : List UInt8 := [42, 180, 0, 37, 42, 180, 0, 7, 180, 0, 43, 96, 4, 100, 42, 180, 0, 7, 180, 0, 43, 108, 61, 3]
abbrev dktX11_peaks_0 : List UInt8 := dkwX11_peaks_0 ++ dktX11_peaks_1
theorem dksX11_peaks_0 : cX11_peaks.data.toList.drop 0 = dktX11_peaks_0 := by decide +kernel
theorem dksX11_peaks_1 : cX11_peaks.data.toList.drop 24 = dktX11_peaks_1 := dk_seg dksX11_peaks_0 24 rfl rfl
theorem dX11_peaks_0 : decode cX11_peaks 0 = .ok (.aload_n 0, 1) := dk_42 (dk_at dksX11_peaks_0 0 rfl rfl)
theorem dX11_peaks_1 : decode cX11_peaks 1 = .ok (.getfield 37, 3) := dk_180 0 37 (dk_at dksX11_peaks_0 1 rfl rfl)
theorem dX11_peaks_4 : decode cX11_peaks 4 = .ok (.aload_n 0, 1) := dk_42 (dk_at dksX11_peaks_0 4 rfl rfl)
theorem dX11_peaks_5 : decode cX11_peaks 5 = .ok (.getfield 7, 3) := dk_180 0 7 (dk_at dksX11_peaks_0 5 rfl rfl)
theorem dX11_peaks_8 : decode cX11_peaks 8 = .ok (.getfield 43, 3) := dk_180 0 43 (dk_at dksX11_peaks_0 8 rfl rfl)
theorem dX11_peaks_11 : decode cX11_peaks 11 = .ok (.iadd, 1) := dk_96 (dk_at dksX11_peaks_0 11 rfl rfl)
theorem dX11_peaks_12 : decode cX11_peaks 12 = .ok (.iconst 1, 1) := dk_4 (dk_at dksX11_peaks_0 12 rfl rfl)
theorem dX11_peaks_13 : decode cX11_peaks 13 = .ok (.isub, 1) := dk_100 (dk_at dksX11_peaks_0 13 rfl rfl)
theorem dX11_peaks_14 : decode cX11_peaks 14 = .ok (.aload_n 0, 1) := dk_42 (dk_at dksX11_peaks_0 14 rfl rfl)
theorem dX11_peaks_15 : decode cX11_peaks 15 = .ok (.getfield 7, 3) := dk_180 0 7 (dk_at dksX11_peaks_0 15 rfl rfl)
theorem dX11_peaks_18 : decode cX11_peaks 18 = .ok (.getfield 43, 3) := dk_180 0 43 (dk_at dksX11_peaks_0 18 rfl rfl)
theorem dX11_peaks_21 : decode cX11_peaks 21 = .ok (.idiv, 1) := dk_108 (dk_at dksX11_peaks_0 21 rfl rfl)
theorem dX11_peaks_22 : decode cX11_peaks 22 = .ok (.istore_n 2, 1) := dk_61 (dk_at dksX11_peaks_0 22 rfl rfl)
theorem dX11_peaks_23 : decode cX11_peaks 23 = .ok (.iconst 0, 1) := dk_3 (dk_at dksX11_peaks_0 23 rfl rfl)
theorem dX11_peaks_24 : decode cX11_peaks 24 = .ok (.iload_n 1, 1) := dk_27 (dk_at dksX11_peaks_1 0 rfl rfl)
theorem dX11_peaks_25 : decode cX11_peaks 25 = .ok (.aload_n 0, 1) := dk_42 (dk_at dksX11_peaks_1 1 rfl rfl)
theorem dX11_peaks_26 : decode cX11_peaks 26 = .ok (.getfield 13, 3) := dk_180 0 13 (dk_at dksX11_peaks_1 2 rfl rfl)
theorem dX11_peaks_29 : decode cX11_peaks 29 = .ok (.iconst 1, 1) := dk_4 (dk_at dksX11_peaks_1 5 rfl rfl)
theorem dX11_peaks_30 : decode cX11_peaks 30 = .ok (.iadd, 1) := dk_96 (dk_at dksX11_peaks_1 6 rfl rfl)
theorem dX11_peaks_31 : decode cX11_peaks 31 = .ok (.iload_n 2, 1) := dk_28 (dk_at dksX11_peaks_1 7 rfl rfl)
theorem dX11_peaks_32 : decode cX11_peaks 32 = .ok (.isub, 1) := dk_100 (dk_at dksX11_peaks_1 8 rfl rfl)
theorem dX11_peaks_33 : decode cX11_peaks 33 = .ok (.invokestatic 46, 3) := dk_184 0 46 (dk_at dksX11_peaks_1 9 rfl rfl)
theorem dX11_peaks_36 : decode cX11_peaks 36 = .ok (.iload_n 2, 1) := dk_28 (dk_at dksX11_peaks_1 12 rfl rfl)
theorem dX11_peaks_37 : decode cX11_peaks 37 = .ok (.isub, 1) := dk_100 (dk_at dksX11_peaks_1 13 rfl rfl)
theorem dX11_peaks_38 : decode cX11_peaks 38 = .ok (.iconst 1, 1) := dk_4 (dk_at dksX11_peaks_1 14 rfl rfl)
theorem dX11_peaks_39 : decode cX11_peaks 39 = .ok (.iadd, 1) := dk_96 (dk_at dksX11_peaks_1 15 rfl rfl)
theorem dX11_peaks_40 : decode cX11_peaks 40 = .ok (.invokestatic 49, 3) := dk_184 0 49 (dk_at dksX11_peaks_1 16 rfl rfl)
theorem dX11_peaks_43 : decode cX11_peaks 43 = .ok (.ireturn, 1) := dk_172 (dk_at dksX11_peaks_1 19 rfl rfl)
theorem q143 : (Jvm.Cond.initialized "CameraMoves$Ramp") ∈ lw_all := lw_g (lw_at lw_m1 36 rfl) rfl
theorem q824 : (Jvm.Cond.instantiable "CameraMoves$Ramp" (5 : Nat)) ∈ lw_all := lw_g (lw_at lw_m3 237 rfl) rfl
theorem q826 : (Jvm.Cond.instanceMethod ({ cls := "CameraMoves$Ramp", name := "<init>", desc := "(LCameraMoves$Axis;II)V" } : Jvm.MethodName)) ∈ lw_all := lw_g (lw_at lw_m3 239 rfl) rfl
theorem q827 : (Jvm.Cond.code ({ cls := "CameraMoves$Ramp", name := "<init>", desc := "(LCameraMoves$Axis;II)V" } : Jvm.MethodName) prog_13_method_1_code (5 : Nat) (Option.none : Option Jvm.ClassFile.FieldType)) ∈ lw_all := lw_g (lw_at lw_m4 0 rfl) rfl
theorem q828 : (Jvm.Cond.methodLink "CameraMoves$Ramp" (1 : Nat) ({ cls := "java/lang/Object", name := "<init>", desc := "()V" } : Jvm.MethodName)) ∈ lw_all := lw_g (lw_at lw_m4 1 rfl) rfl
theorem q829 : (Jvm.Cond.methodLink "CameraMoves$Ramp" (17 : Nat) ({ cls := "java/lang/Integer", name := "signum", desc := "(I)I" } : Jvm.MethodName)) ∈ lw_all := lw_g (lw_at lw_m4 2 rfl) rfl
theorem q832 : (Jvm.Cond.methodLink "CameraMoves$Ramp" (26 : Nat) ({ cls := "CameraMoves$Axis", name := "sum", desc := "(II)I" } : Jvm.MethodName)) ∈ lw_all := lw_g (lw_at lw_m4 5 rfl) rfl
theorem q833 : (Jvm.Cond.methodLink "CameraMoves$Ramp" (32 : Nat) ({ cls := "java/lang/Math", name := "abs", desc := "(I)I" } : Jvm.MethodName)) ∈ lw_all := lw_g (lw_at lw_m4 6 rfl) rfl
theorem q834 : (Jvm.Cond.fieldLink "CameraMoves$Ramp" (7 : Nat) "CameraMoves$Ramp" "axis" "LCameraMoves$Axis;") ∈ lw_all := lw_g (lw_at lw_m4 7 rfl) rfl
theorem q835 : (Jvm.Cond.fieldLink "CameraMoves$Ramp" (13 : Nat) "CameraMoves$Ramp" "frames" "I") ∈ lw_all := lw_g (lw_at lw_m4 8 rfl) rfl
theorem q836 : (Jvm.Cond.fieldLink "CameraMoves$Ramp" (23 : Nat) "CameraMoves$Ramp" "sign" "I") ∈ lw_all := lw_g (lw_at lw_m4 9 rfl) rfl
theorem q837 : (Jvm.Cond.fieldLink "CameraMoves$Ramp" (37 : Nat) "CameraMoves$Ramp" "peak" "I") ∈ lw_all := lw_g (lw_at lw_m4 10 rfl) rfl
theorem q838 : (Jvm.Cond.fieldLink "CameraMoves$Ramp" (40 : Nat) "CameraMoves$Ramp" "excess" "I") ∈ lw_all := lw_g (lw_at lw_m4 11 rfl) rfl
theorem q839 : (Jvm.Cond.laysFinal "CameraMoves$Ramp" "CameraMoves$Ramp" "axis" "LCameraMoves$Axis;") ∈ lw_all := lw_g (lw_at lw_m4 12 rfl) rfl
theorem q840 : (Jvm.Cond.soleField "CameraMoves$Ramp" "axis") ∈ lw_all := lw_g (lw_at lw_m4 13 rfl) rfl
theorem q841 : (Jvm.Cond.laysFinal "CameraMoves$Ramp" "CameraMoves$Ramp" "frames" "I") ∈ lw_all := lw_g (lw_at lw_m4 14 rfl) rfl
theorem q842 : (Jvm.Cond.soleField "CameraMoves$Ramp" "frames") ∈ lw_all := lw_g (lw_at lw_m4 15 rfl) rfl
theorem q843 : (Jvm.Cond.laysFinal "CameraMoves$Ramp" "CameraMoves$Ramp" "sign" "I") ∈ lw_all := lw_g (lw_at lw_m4 16 rfl) rfl
theorem q844 : (Jvm.Cond.soleField "CameraMoves$Ramp" "sign") ∈ lw_all := lw_g (lw_at lw_m4 17 rfl) rfl
theorem q845 : (Jvm.Cond.laysFinal "CameraMoves$Ramp" "CameraMoves$Ramp" "peak" "I") ∈ lw_all := lw_g (lw_at lw_m4 18 rfl) rfl
theorem q846 : (Jvm.Cond.soleField "CameraMoves$Ramp" "peak") ∈ lw_all := lw_g (lw_at lw_m4 19 rfl) rfl
theorem q847 : (Jvm.Cond.laysFinal "CameraMoves$Ramp" "CameraMoves$Ramp" "excess" "I") ∈ lw_all := lw_g (lw_at lw_m4 20 rfl) rfl
theorem q848 : (Jvm.Cond.soleField "CameraMoves$Ramp" "excess") ∈ lw_all := lw_g (lw_at lw_m4 21 rfl) rfl
theorem q849 : (Jvm.Cond.superclass "CameraMoves$Ramp" "java/lang/Object") ∈ lw_all := lw_g (lw_at lw_m4 22 rfl) rfl
theorem q851 : (Jvm.Cond.instanceMethod ({ cls := "CameraMoves$Ramp", name := "speed", desc := "(I)I" } : Jvm.MethodName)) ∈ lw_all := lw_g (lw_at lw_m4 24 rfl) rfl
theorem q852 : (Jvm.Cond.selects "CameraMoves$Ramp" ({ cls := "CameraMoves$Ramp", name := "speed", desc := "(I)I" } : Jvm.MethodName) ({ cls := "CameraMoves$Ramp", name := "speed", desc := "(I)I" } : Jvm.MethodName)) ∈ lw_all := lw_g (lw_at lw_m4 25 rfl) rfl
theorem q853 : (Jvm.Cond.code ({ cls := "CameraMoves$Ramp", name := "speed", desc := "(I)I" } : Jvm.MethodName) prog_13_method_4_code (3 : Nat) (Option.some Jvm.ClassFile.FieldType.int)) ∈ lw_all := lw_g (lw_at lw_m4 26 rfl) rfl
theorem q854 : (Jvm.Cond.methodLink "CameraMoves$Ramp" (52 : Nat) ({ cls := "CameraMoves$Ramp", name := "smaller", desc := "(I)I" } : Jvm.MethodName)) ∈ lw_all := lw_g (lw_at lw_m4 27 rfl) rfl
theorem q855 : (Jvm.Cond.privateMethod ({ cls := "CameraMoves$Ramp", name := "smaller", desc := "(I)I" } : Jvm.MethodName)) ∈ lw_tbl := lw_at lw_m4 28 rfl
theorem q856 : (Jvm.Cond.instanceMethod ({ cls := "CameraMoves$Ramp", name := "smaller", desc := "(I)I" } : Jvm.MethodName)) ∈ lw_all := lw_g (lw_at lw_m4 29 rfl) rfl
theorem q857 : (Jvm.Cond.code ({ cls := "CameraMoves$Ramp", name := "smaller", desc := "(I)I" } : Jvm.MethodName) prog_13_method_2_code (2 : Nat) (Option.some Jvm.ClassFile.FieldType.int)) ∈ lw_all := lw_g (lw_at lw_m4 30 rfl) rfl
theorem q858 : (Jvm.Cond.methodLink "CameraMoves$Ramp" (46 : Nat) ({ cls := "java/lang/Math", name := "min", desc := "(II)I" } : Jvm.MethodName)) ∈ lw_all := lw_g (lw_at lw_m4 31 rfl) rfl
theorem q859 : (Jvm.Cond.methodLink "CameraMoves$Ramp" (55 : Nat) ({ cls := "CameraMoves$Ramp", name := "peaks", desc := "(I)I" } : Jvm.MethodName)) ∈ lw_all := lw_g (lw_at lw_m4 32 rfl) rfl
theorem q860 : (Jvm.Cond.privateMethod ({ cls := "CameraMoves$Ramp", name := "peaks", desc := "(I)I" } : Jvm.MethodName)) ∈ lw_tbl := lw_at lw_m4 33 rfl
theorem q861 : (Jvm.Cond.instanceMethod ({ cls := "CameraMoves$Ramp", name := "peaks", desc := "(I)I" } : Jvm.MethodName)) ∈ lw_all := lw_g (lw_at lw_m4 34 rfl) rfl
theorem q862 : (Jvm.Cond.code ({ cls := "CameraMoves$Ramp", name := "peaks", desc := "(I)I" } : Jvm.MethodName) prog_13_method_3_code (3 : Nat) (Option.some Jvm.ClassFile.FieldType.int)) ∈ lw_all := lw_g (lw_at lw_m4 35 rfl) rfl
theorem q863 : (Jvm.Cond.methodLink "CameraMoves$Ramp" (49 : Nat) ({ cls := "java/lang/Math", name := "max", desc := "(II)I" } : Jvm.MethodName)) ∈ lw_all := lw_g (lw_at lw_m4 36 rfl) rfl
theorem q1163 : (Jvm.Cond.fieldLinkNest "CameraMoves$Ramp" (43 : Nat) "CameraMoves$Axis" "ramp" "I" "CameraMoves") ∈ lw_tbl := lw_at lw_m5 96 rfl
theorem q1214 : (Jvm.Cond.selects "CameraMoves$Ramp" ({ cls := "java/lang/Object", name := "getClass", desc := "()Ljava/lang/Class;" } : Jvm.MethodName) ({ cls := "java/lang/Object", name := "getClass", desc := "()Ljava/lang/Class;" } : Jvm.MethodName)) ∈ lw_all := lw_g (lw_at lw_m5 147 rfl) rfl
theorem q2690 : (Jvm.Cond.castable "CameraMoves$Ramp" "java/lang/Object") ∈ lw_tbl := lw_at lw_m11 183 rfl
theorem in_X11 : ∀ w ∈ wsX110, w ∈ lw_all := lw_in wsX110 [839, 841, 843, 845, 847] (by decide +kernel) (by decide +kernel)

/-! CameraMoves$Plan$1 -/
set_option maxRecDepth 100000
def RX12 : String := "CameraMoves$Plan$1"
def TX12 : u_T := fun k => match k with
  | 0 => ("CameraMoves$Plan$1", "last", "I", false)
  | 1 => ("CameraMoves$Plan$1", "next", "I", false)
  | 2 => ("CameraMoves$Plan$1", "val$axis", "I", true)
  | _ => ("CameraMoves$Plan$1", "this$0", "LCameraMoves$Plan;", true)
def tyX12 : Nat → FieldType := fun k => match k with
  | 0 => .int
  | 1 => .int
  | 2 => .int
  | _ => .object "CameraMoves$Plan"
abbrev wsX120 : List Cond := u_ws RX12 TX12 4
theorem nmX12 : ∀ a, a < 4 → ∀ b, b < 4 → a ≠ b → (TX12 a).2.1 ≠ (TX12 b).2.1 := by decide +kernel
theorem tyX12_ok : ∀ k, k < 4 → parseFieldDescriptor (TX12 k).2.2.1 = some (tyX12 k) := by decide +kernel
abbrev cX12_init : ByteArray := prog_12_method_1_code
def yX12_init : MethodName := ⟨RX12, "<init>", "(LCameraMoves$Plan;I)V"⟩
def dkwX12_init_1 : List UInt8 := [181, 0, 26, 177]
abbrev dktX12_init_1 : List UInt8 := dkwX12_init_1 ++ []
def dkwX12_init_0 : List UInt8 := [42, 43, 181, 0, 3, 42, 28, 181, 0, 9, 42, 183, 0, 13, 42, 2, 181, 0, 19, 42, 42, 182, 0, 22]
abbrev dktX12_init_0 : List UInt8 := dkwX12_init_0 ++ dktX12_init_1
theorem dksX12_init_0 : cX12_init.data.toList.drop 0 = dktX12_init_0 := by decide +kernel
theorem dksX12_init_1 : cX12_init.data.toList.drop 24 = dktX12_init_1 := dk_seg dksX12_init_0 24 rfl rfl
theorem dX12_init_0 : decode cX12_init 0 = .ok (.aload_n 0, 1) := dk_42 (dk_at dksX12_init_0 0 rfl rfl)
theorem dX12_init_1 : decode cX12_init 1 = .ok (.aload_n 1, 1) := dk_43 (dk_at dksX12_init_0 1 rfl rfl)
theorem dX12_init_2 : decode cX12_init 2 = .ok (.putfield 3, 3) := dk_181 0 3 (dk_at dksX12_init_0 2 rfl rfl)
theorem dX12_init_5 : decode cX12_init 5 = .ok (.aload_n 0, 1) := dk_42 (dk_at dksX12_init_0 5 rfl rfl)
theorem dX12_init_6 : decode cX12_init 6 = .ok (.iload_n 2, 1) := dk_28 (dk_at dksX12_init_0 6 rfl rfl)
theorem dX12_init_7 : decode cX12_init 7 = .ok (.putfield 9, 3) := dk_181 0 9 (dk_at dksX12_init_0 7 rfl rfl)
theorem dX12_init_10 : decode cX12_init 10 = .ok (.aload_n 0, 1) := dk_42 (dk_at dksX12_init_0 10 rfl rfl)
theorem dX12_init_11 : decode cX12_init 11 = .ok (.invokespecial 13, 3) := dk_183 0 13 (dk_at dksX12_init_0 11 rfl rfl)
theorem dX12_init_14 : decode cX12_init 14 = .ok (.aload_n 0, 1) := dk_42 (dk_at dksX12_init_0 14 rfl rfl)
theorem dX12_init_15 : decode cX12_init 15 = .ok (.iconst (-1), 1) := dk_2 (dk_at dksX12_init_0 15 rfl rfl)
theorem dX12_init_16 : decode cX12_init 16 = .ok (.putfield 19, 3) := dk_181 0 19 (dk_at dksX12_init_0 16 rfl rfl)
theorem dX12_init_19 : decode cX12_init 19 = .ok (.aload_n 0, 1) := dk_42 (dk_at dksX12_init_0 19 rfl rfl)
theorem dX12_init_20 : decode cX12_init 20 = .ok (.aload_n 0, 1) := dk_42 (dk_at dksX12_init_0 20 rfl rfl)
theorem dX12_init_21 : decode cX12_init 21 = .ok (.invokevirtual 22, 3) := dk_182 0 22 (dk_at dksX12_init_0 21 rfl rfl)
theorem dX12_init_24 : decode cX12_init 24 = .ok (.putfield 26, 3) := dk_181 0 26 (dk_at dksX12_init_1 0 rfl rfl)
theorem dX12_init_27 : decode cX12_init 27 = .ok (.return_, 1) := dk_177 (dk_at dksX12_init_1 3 rfl rfl)
abbrev cX12_find : ByteArray := prog_12_method_3_code
def yX12_find : MethodName := ⟨RX12, "find", "()I"⟩
def dkwX12_find_4 : List UInt8 := [60, 132, 2, 1, 167, 255, 162, 27, 172]
abbrev dktX12_find_4 : List UInt8 := dkwX12_find_4 ++ []
def dkwX12_find_3 : List UInt8 := [62, 29, 153, 0, 21, 27, 2, 159, 0, 12, 42, 27, 28, 182, 0, 56, 153, 0, 7, 28, 167, 0, 4, 27]
abbrev dktX12_find_3 : List UInt8 := dkwX12_find_3 ++ dktX12_find_4
def dkwX12_find_2 : List UInt8 := [180, 0, 19, 2, 159, 0, 15, 42, 28, 42, 180, 0, 19, 182, 0, 56, 153, 0, 7, 4, 167, 0, 4, 3]
abbrev dktX12_find_2 : List UInt8 := dkwX12_find_2 ++ dktX12_find_3
def dkwX12_find_1 : List UInt8 := [180, 0, 29, 28, 182, 0, 35, 192, 0, 41, 180, 0, 49, 42, 180, 0, 9, 184, 0, 52, 153, 0, 27, 42]
abbrev dktX12_find_1 : List UInt8 := dkwX12_find_1 ++ dktX12_find_2
def dkwX12_find_0 : List UInt8 := [2, 60, 3, 61, 28, 42, 180, 0, 3, 180, 0, 29, 182, 0, 46, 162, 0, 86, 42, 180, 0, 3]
abbrev dktX12_find_0 : List UInt8 := dkwX12_find_0 ++ dktX12_find_1
theorem dksX12_find_0 : cX12_find.data.toList.drop 0 = dktX12_find_0 := by decide +kernel
theorem dksX12_find_1 : cX12_find.data.toList.drop 22 = dktX12_find_1 := dk_seg dksX12_find_0 22 rfl rfl
theorem dksX12_find_2 : cX12_find.data.toList.drop 46 = dktX12_find_2 := dk_seg dksX12_find_1 24 rfl rfl
theorem dksX12_find_3 : cX12_find.data.toList.drop 70 = dktX12_find_3 := dk_seg dksX12_find_2 24 rfl rfl
theorem dksX12_find_4 : cX12_find.data.toList.drop 94 = dktX12_find_4 := dk_seg dksX12_find_3 24 rfl rfl
theorem dX12_find_0 : decode cX12_find 0 = .ok (.iconst (-1), 1) := dk_2 (dk_at dksX12_find_0 0 rfl rfl)
theorem dX12_find_1 : decode cX12_find 1 = .ok (.istore_n 1, 1) := dk_60 (dk_at dksX12_find_0 1 rfl rfl)
theorem dX12_find_2 : decode cX12_find 2 = .ok (.iconst 0, 1) := dk_3 (dk_at dksX12_find_0 2 rfl rfl)
theorem dX12_find_3 : decode cX12_find 3 = .ok (.istore_n 2, 1) := dk_61 (dk_at dksX12_find_0 3 rfl rfl)
theorem dX12_find_4 : decode cX12_find 4 = .ok (.iload_n 2, 1) := dk_28 (dk_at dksX12_find_0 4 rfl rfl)
theorem dX12_find_5 : decode cX12_find 5 = .ok (.aload_n 0, 1) := dk_42 (dk_at dksX12_find_0 5 rfl rfl)
theorem dX12_find_6 : decode cX12_find 6 = .ok (.getfield 3, 3) := dk_180 0 3 (dk_at dksX12_find_0 6 rfl rfl)
theorem dX12_find_9 : decode cX12_find 9 = .ok (.getfield 29, 3) := dk_180 0 29 (dk_at dksX12_find_0 9 rfl rfl)
theorem dX12_find_12 : decode cX12_find 12 = .ok (.invokevirtual 46, 3) := dk_182 0 46 (dk_at dksX12_find_0 12 rfl rfl)
theorem dX12_find_15 : decode cX12_find 15 = .ok (.if_icmp .ge 86, 3) := dk_162 0 86 (dk_at dksX12_find_0 15 rfl rfl)
theorem dX12_find_18 : decode cX12_find 18 = .ok (.aload_n 0, 1) := dk_42 (dk_at dksX12_find_0 18 rfl rfl)
theorem dX12_find_19 : decode cX12_find 19 = .ok (.getfield 3, 3) := dk_180 0 3 (dk_at dksX12_find_0 19 rfl rfl)
theorem dX12_find_22 : decode cX12_find 22 = .ok (.getfield 29, 3) := dk_180 0 29 (dk_at dksX12_find_1 0 rfl rfl)
theorem dX12_find_25 : decode cX12_find 25 = .ok (.iload_n 2, 1) := dk_28 (dk_at dksX12_find_1 3 rfl rfl)
theorem dX12_find_26 : decode cX12_find 26 = .ok (.invokevirtual 35, 3) := dk_182 0 35 (dk_at dksX12_find_1 4 rfl rfl)
theorem dX12_find_29 : decode cX12_find 29 = .ok (.checkcast 41, 3) := dk_192 0 41 (dk_at dksX12_find_1 7 rfl rfl)
theorem dX12_find_32 : decode cX12_find 32 = .ok (.getfield 49, 3) := dk_180 0 49 (dk_at dksX12_find_1 10 rfl rfl)
theorem dX12_find_35 : decode cX12_find 35 = .ok (.aload_n 0, 1) := dk_42 (dk_at dksX12_find_1 13 rfl rfl)
theorem dX12_find_36 : decode cX12_find 36 = .ok (.getfield 9, 3) := dk_180 0 9 (dk_at dksX12_find_1 14 rfl rfl)
theorem dX12_find_39 : decode cX12_find 39 = .ok (.invokestatic 52, 3) := dk_184 0 52 (dk_at dksX12_find_1 17 rfl rfl)
theorem dX12_find_42 : decode cX12_find 42 = .ok (.ifCond .eq 27, 3) := dk_153 0 27 (dk_at dksX12_find_1 20 rfl rfl)
theorem dX12_find_45 : decode cX12_find 45 = .ok (.aload_n 0, 1) := dk_42 (dk_at dksX12_find_1 23 rfl rfl)
theorem dX12_find_46 : decode cX12_find 46 = .ok (.getfield 19, 3) := dk_180 0 19 (dk_at dksX12_find_2 0 rfl rfl)
theorem dX12_find_49 : decode cX12_find 49 = .ok (.iconst (-1), 1) := dk_2 (dk_at dksX12_find_2 3 rfl rfl)
theorem dX12_find_50 : decode cX12_find 50 = .ok (.if_icmp .eq 15, 3) := dk_159 0 15 (dk_at dksX12_find_2 4 rfl rfl)
theorem dX12_find_53 : decode cX12_find 53 = .ok (.aload_n 0, 1) := dk_42 (dk_at dksX12_find_2 7 rfl rfl)
theorem dX12_find_54 : decode cX12_find 54 = .ok (.iload_n 2, 1) := dk_28 (dk_at dksX12_find_2 8 rfl rfl)
theorem dX12_find_55 : decode cX12_find 55 = .ok (.aload_n 0, 1) := dk_42 (dk_at dksX12_find_2 9 rfl rfl)
theorem dX12_find_56 : decode cX12_find 56 = .ok (.getfield 19, 3) := dk_180 0 19 (dk_at dksX12_find_2 10 rfl rfl)
theorem dX12_find_59 : decode cX12_find 59 = .ok (.invokevirtual 56, 3) := dk_182 0 56 (dk_at dksX12_find_2 13 rfl rfl)
theorem dX12_find_62 : decode cX12_find 62 = .ok (.ifCond .eq 7, 3) := dk_153 0 7 (dk_at dksX12_find_2 16 rfl rfl)
theorem dX12_find_65 : decode cX12_find 65 = .ok (.iconst 1, 1) := dk_4 (dk_at dksX12_find_2 19 rfl rfl)
theorem dX12_find_66 : decode cX12_find 66 = .ok (.goto 4, 3) := dk_167 0 4 (dk_at dksX12_find_2 20 rfl rfl)
theorem dX12_find_69 : decode cX12_find 69 = .ok (.iconst 0, 1) := dk_3 (dk_at dksX12_find_2 23 rfl rfl)
theorem dX12_find_70 : decode cX12_find 70 = .ok (.istore_n 3, 1) := dk_62 (dk_at dksX12_find_3 0 rfl rfl)
theorem dX12_find_71 : decode cX12_find 71 = .ok (.iload_n 3, 1) := dk_29 (dk_at dksX12_find_3 1 rfl rfl)
theorem dX12_find_72 : decode cX12_find 72 = .ok (.ifCond .eq 21, 3) := dk_153 0 21 (dk_at dksX12_find_3 2 rfl rfl)
theorem dX12_find_75 : decode cX12_find 75 = .ok (.iload_n 1, 1) := dk_27 (dk_at dksX12_find_3 5 rfl rfl)
theorem dX12_find_76 : decode cX12_find 76 = .ok (.iconst (-1), 1) := dk_2 (dk_at dksX12_find_3 6 rfl rfl)
theorem dX12_find_77 : decode cX12_find 77 = .ok (.if_icmp .eq 12, 3) := dk_159 0 12 (dk_at dksX12_find_3 7 rfl rfl)
theorem dX12_find_80 : decode cX12_find 80 = .ok (.aload_n 0, 1) := dk_42 (dk_at dksX12_find_3 10 rfl rfl)
theorem dX12_find_81 : decode cX12_find 81 = .ok (.iload_n 1, 1) := dk_27 (dk_at dksX12_find_3 11 rfl rfl)
theorem dX12_find_82 : decode cX12_find 82 = .ok (.iload_n 2, 1) := dk_28 (dk_at dksX12_find_3 12 rfl rfl)
theorem dX12_find_83 : decode cX12_find 83 = .ok (.invokevirtual 56, 3) := dk_182 0 56 (dk_at dksX12_find_3 13 rfl rfl)
theorem dX12_find_86 : decode cX12_find 86 = .ok (.ifCond .eq 7, 3) := dk_153 0 7 (dk_at dksX12_find_3 16 rfl rfl)
theorem dX12_find_89 : decode cX12_find 89 = .ok (.iload_n 2, 1) := dk_28 (dk_at dksX12_find_3 19 rfl rfl)
theorem dX12_find_90 : decode cX12_find 90 = .ok (.goto 4, 3) := dk_167 0 4 (dk_at dksX12_find_3 20 rfl rfl)
theorem dX12_find_93 : decode cX12_find 93 = .ok (.iload_n 1, 1) := dk_27 (dk_at dksX12_find_3 23 rfl rfl)
theorem dX12_find_94 : decode cX12_find 94 = .ok (.istore_n 1, 1) := dk_60 (dk_at dksX12_find_4 0 rfl rfl)
theorem dX12_find_95 : decode cX12_find 95 = .ok (.iinc 2 1, 3) := dk_132 2 1 (dk_at dksX12_find_4 1 rfl rfl)
theorem dX12_find_98 : decode cX12_find 98 = .ok (.goto (-94), 3) := dk_167 255 162 (dk_at dksX12_find_4 4 rfl rfl)
theorem dX12_find_101 : decode cX12_find 101 = .ok (.iload_n 1, 1) := dk_27 (dk_at dksX12_find_4 7 rfl rfl)
theorem dX12_find_102 : decode cX12_find 102 = .ok (.ireturn, 1) := dk_172 (dk_at dksX12_find_4 8 rfl rfl)
abbrev cX12_isBehind : ByteArray := prog_12_method_2_code
def yX12_isBehind : MethodName := ⟨RX12, "isBehind", "(II)Z"⟩
def dkwX12_isBehind_2 : List UInt8 := [164, 0, 7, 4, 167, 0, 17, 3, 167, 0, 13, 27, 28, 164, 0, 7, 4, 167, 0, 4, 3, 172]
abbrev dktX12_isBehind_2 : List UInt8 := dkwX12_isBehind_2 ++ []
def dkwX12_isBehind_1 : List UInt8 := [180, 0, 29, 28, 182, 0, 35, 192, 0, 41, 180, 0, 43, 54, 4, 29, 21, 4, 159, 0, 17, 29, 21, 4]
abbrev dktX12_isBehind_1 : List UInt8 := dkwX12_isBehind_1 ++ dktX12_isBehind_2
def dkwX12_isBehind_0 : List UInt8 := [42, 180, 0, 3, 180, 0, 29, 27, 182, 0, 35, 192, 0, 41, 180, 0, 43, 62, 42, 180, 0, 3]
abbrev dktX12_isBehind_0 : List UInt8 := dkwX12_isBehind_0 ++ dktX12_isBehind_1
theorem dksX12_isBehind_0 : cX12_isBehind.data.toList.drop 0 = dktX12_isBehind_0 := by decide +kernel
theorem dksX12_isBehind_1 : cX12_isBehind.data.toList.drop 22 = dktX12_isBehind_1 := dk_seg dksX12_isBehind_0 22 rfl rfl
theorem dksX12_isBehind_2 : cX12_isBehind.data.toList.drop 46 = dktX12_isBehind_2 := dk_seg dksX12_isBehind_1 24 rfl rfl
theorem dX12_isBehind_0 : decode cX12_isBehind 0 = .ok (.aload_n 0, 1) := dk_42 (dk_at dksX12_isBehind_0 0 rfl rfl)
theorem dX12_isBehind_1 : decode cX12_isBehind 1 = .ok (.getfield 3, 3) := dk_180 0 3 (dk_at dksX12_isBehind_0 1 rfl rfl)
theorem dX12_isBehind_4 : decode cX12_isBehind 4 = .ok (.getfield 29, 3) := dk_180 0 29 (dk_at dksX12_isBehind_0 4 rfl rfl)
theorem dX12_isBehind_7 : decode cX12_isBehind 7 = .ok (.iload_n 1, 1) := dk_27 (dk_at dksX12_isBehind_0 7 rfl rfl)
theorem dX12_isBehind_8 : decode cX12_isBehind 8 = .ok (.invokevirtual 35, 3) := dk_182 0 35 (dk_at dksX12_isBehind_0 8 rfl rfl)
theorem dX12_isBehind_11 : decode cX12_isBehind 11 = .ok (.checkcast 41, 3) := dk_192 0 41 (dk_at dksX12_isBehind_0 11 rfl rfl)
theorem dX12_isBehind_14 : decode cX12_isBehind 14 = .ok (.getfield 43, 3) := dk_180 0 43 (dk_at dksX12_isBehind_0 14 rfl rfl)
theorem dX12_isBehind_17 : decode cX12_isBehind 17 = .ok (.istore_n 3, 1) := dk_62 (dk_at dksX12_isBehind_0 17 rfl rfl)
theorem dX12_isBehind_18 : decode cX12_isBehind 18 = .ok (.aload_n 0, 1) := dk_42 (dk_at dksX12_isBehind_0 18 rfl rfl)
theorem dX12_isBehind_19 : decode cX12_isBehind 19 = .ok (.getfield 3, 3) := dk_180 0 3 (dk_at dksX12_isBehind_0 19 rfl rfl)
theorem dX12_isBehind_22 : decode cX12_isBehind 22 = .ok (.getfield 29, 3) := dk_180 0 29 (dk_at dksX12_isBehind_1 0 rfl rfl)
theorem dX12_isBehind_25 : decode cX12_isBehind 25 = .ok (.iload_n 2, 1) := dk_28 (dk_at dksX12_isBehind_1 3 rfl rfl)
theorem dX12_isBehind_26 : decode cX12_isBehind 26 = .ok (.invokevirtual 35, 3) := dk_182 0 35 (dk_at dksX12_isBehind_1 4 rfl rfl)
theorem dX12_isBehind_29 : decode cX12_isBehind 29 = .ok (.checkcast 41, 3) := dk_192 0 41 (dk_at dksX12_isBehind_1 7 rfl rfl)
theorem dX12_isBehind_32 : decode cX12_isBehind 32 = .ok (.getfield 43, 3) := dk_180 0 43 (dk_at dksX12_isBehind_1 10 rfl rfl)
theorem dX12_isBehind_35 : decode cX12_isBehind 35 = .ok (.istore 4, 2) := dk_54 4 (dk_at dksX12_isBehind_1 13 rfl rfl)
theorem dX12_isBehind_37 : decode cX12_isBehind 37 = .ok (.iload_n 3, 1) := dk_29 (dk_at dksX12_isBehind_1 15 rfl rfl)
theorem dX12_isBehind_38 : decode cX12_isBehind 38 = .ok (.iload 4, 2) := dk_21 4 (dk_at dksX12_isBehind_1 16 rfl rfl)
theorem dX12_isBehind_40 : decode cX12_isBehind 40 = .ok (.if_icmp .eq 17, 3) := dk_159 0 17 (dk_at dksX12_isBehind_1 18 rfl rfl)
theorem dX12_isBehind_43 : decode cX12_isBehind 43 = .ok (.iload_n 3, 1) := dk_29 (dk_at dksX12_isBehind_1 21 rfl rfl)
theorem dX12_isBehind_44 : decode cX12_isBehind 44 = .ok (.iload 4, 2) := dk_21 4 (dk_at dksX12_isBehind_1 22 rfl rfl)
theorem dX12_isBehind_46 : decode cX12_isBehind 46 = .ok (.if_icmp .le 7, 3) := dk_164 0 7 (dk_at dksX12_isBehind_2 0 rfl rfl)
theorem dX12_isBehind_49 : decode cX12_isBehind 49 = .ok (.iconst 1, 1) := dk_4 (dk_at dksX12_isBehind_2 3 rfl rfl)
theorem dX12_isBehind_50 : decode cX12_isBehind 50 = .ok (.goto 17, 3) := dk_167 0 17 (dk_at dksX12_isBehind_2 4 rfl rfl)
theorem dX12_isBehind_53 : decode cX12_isBehind 53 = .ok (.iconst 0, 1) := dk_3 (dk_at dksX12_isBehind_2 7 rfl rfl)
theorem dX12_isBehind_54 : decode cX12_isBehind 54 = .ok (.goto 13, 3) := dk_167 0 13 (dk_at dksX12_isBehind_2 8 rfl rfl)
theorem dX12_isBehind_57 : decode cX12_isBehind 57 = .ok (.iload_n 1, 1) := dk_27 (dk_at dksX12_isBehind_2 11 rfl rfl)
theorem dX12_isBehind_58 : decode cX12_isBehind 58 = .ok (.iload_n 2, 1) := dk_28 (dk_at dksX12_isBehind_2 12 rfl rfl)
theorem dX12_isBehind_59 : decode cX12_isBehind 59 = .ok (.if_icmp .le 7, 3) := dk_164 0 7 (dk_at dksX12_isBehind_2 13 rfl rfl)
theorem dX12_isBehind_62 : decode cX12_isBehind 62 = .ok (.iconst 1, 1) := dk_4 (dk_at dksX12_isBehind_2 16 rfl rfl)
theorem dX12_isBehind_63 : decode cX12_isBehind 63 = .ok (.goto 4, 3) := dk_167 0 4 (dk_at dksX12_isBehind_2 17 rfl rfl)
theorem dX12_isBehind_66 : decode cX12_isBehind 66 = .ok (.iconst 0, 1) := dk_3 (dk_at dksX12_isBehind_2 20 rfl rfl)
theorem dX12_isBehind_67 : decode cX12_isBehind 67 = .ok (.ireturn, 1) := dk_172 (dk_at dksX12_isBehind_2 21 rfl rfl)
abbrev cX12_hasNext : ByteArray := prog_12_method_4_code
def yX12_hasNext : MethodName := ⟨RX12, "hasNext", "()Z"⟩
def dkwX12_hasNext_0 : List UInt8 := [42, 180, 0, 26, 2, 159, 0, 7, 4, 167, 0, 4, 3, 172]
abbrev dktX12_hasNext_0 : List UInt8 := dkwX12_hasNext_0 ++ []
theorem dksX12_hasNext_0 : cX12_hasNext.data.toList.drop 0 = dktX12_hasNext_0 := by decide +kernel
theorem dX12_hasNext_0 : decode cX12_hasNext 0 = .ok (.aload_n 0, 1) := dk_42 (dk_at dksX12_hasNext_0 0 rfl rfl)
theorem dX12_hasNext_1 : decode cX12_hasNext 1 = .ok (.getfield 26, 3) := dk_180 0 26 (dk_at dksX12_hasNext_0 1 rfl rfl)
theorem dX12_hasNext_4 : decode cX12_hasNext 4 = .ok (.iconst (-1), 1) := dk_2 (dk_at dksX12_hasNext_0 4 rfl rfl)
theorem dX12_hasNext_5 : decode cX12_hasNext 5 = .ok (.if_icmp .eq 7, 3) := dk_159 0 7 (dk_at dksX12_hasNext_0 5 rfl rfl)
theorem dX12_hasNext_8 : decode cX12_hasNext 8 = .ok (.iconst 1, 1) := dk_4 (dk_at dksX12_hasNext_0 8 rfl rfl)
theorem dX12_hasNext_9 : decode cX12_hasNext 9 = .ok (.goto 4, 3) := dk_167 0 4 (dk_at dksX12_hasNext_0 9 rfl rfl)
theorem dX12_hasNext_12 : decode cX12_hasNext 12 = .ok (.iconst 0, 1) := dk_3 (dk_at dksX12_hasNext_0 12 rfl rfl)
theorem dX12_hasNext_13 : decode cX12_hasNext 13 = .ok (.ireturn, 1) := dk_172 (dk_at dksX12_hasNext_0 13 rfl rfl)
abbrev cX12_next : ByteArray := prog_12_method_6_code
def yX12_next : MethodName := ⟨RX12, "next", "()Ljava/lang/Object;"⟩
theorem dX12_next_0 : decode cX12_next 0 = .ok (.aload_n 0, 1) := by decide +kernel
theorem dX12_next_1 : decode cX12_next 1 = .ok (.invokevirtual 73, 3) := by decide +kernel
theorem dX12_next_4 : decode cX12_next 4 = .ok (.areturn, 1) := by decide +kernel
abbrev cX12_next_2 : ByteArray := prog_12_method_5_code
def yX12_next_2 : MethodName := ⟨RX12, "next", "()Ljava/lang/Integer;"⟩
def dkwX12_next_2_1 : List UInt8 := [180, 0, 19, 184, 0, 67, 176]
abbrev dktX12_next_2_1 : List UInt8 := dkwX12_next_2_1 ++ []
def dkwX12_next_2_0 : List UInt8 := [42, 182, 0, 59, 184, 0, 63, 42, 42, 180, 0, 26, 181, 0, 19, 42, 42, 182, 0, 22, 181, 0, 26, 42]
abbrev dktX12_next_2_0 : List UInt8 := dkwX12_next_2_0 ++ dktX12_next_2_1
theorem dksX12_next_2_0 : cX12_next_2.data.toList.drop 0 = dktX12_next_2_0 := by decide +kernel
theorem dksX12_next_2_1 : cX12_next_2.data.toList.drop 24 = dktX12_next_2_1 := dk_seg dksX12_next_2_0 24 rfl rfl
theorem dX12_next_2_0 : decode cX12_next_2 0 = .ok (.aload_n 0, 1) := dk_42 (dk_at dksX12_next_2_0 0 rfl rfl)
theorem dX12_next_2_1 : decode cX12_next_2 1 = .ok (.invokevirtual 59, 3) := dk_182 0 59 (dk_at dksX12_next_2_0 1 rfl rfl)
theorem dX12_next_2_4 : decode cX12_next_2 4 = .ok (.invokestatic 63, 3) := dk_184 0 63 (dk_at dksX12_next_2_0 4 rfl rfl)
theorem dX12_next_2_7 : decode cX12_next_2 7 = .ok (.aload_n 0, 1) := dk_42 (dk_at dksX12_next_2_0 7 rfl rfl)
theorem dX12_next_2_8 : decode cX12_next_2 8 = .ok (.aload_n 0, 1) := dk_42 (dk_at dksX12_next_2_0 8 rfl rfl)
theorem dX12_next_2_9 : decode cX12_next_2 9 = .ok (.getfield 26, 3) := dk_180 0 26 (dk_at dksX12_next_2_0 9 rfl rfl)
theorem dX12_next_2_12 : decode cX12_next_2 12 = .ok (.putfield 19, 3) := dk_181 0 19 (dk_at dksX12_next_2_0 12 rfl rfl)
theorem dX12_next_2_15 : decode cX12_next_2 15 = .ok (.aload_n 0, 1) := dk_42 (dk_at dksX12_next_2_0 15 rfl rfl)
theorem dX12_next_2_16 : decode cX12_next_2 16 = .ok (.aload_n 0, 1) := dk_42 (dk_at dksX12_next_2_0 16 rfl rfl)
theorem dX12_next_2_17 : decode cX12_next_2 17 = .ok (.invokevirtual 22, 3) := dk_182 0 22 (dk_at dksX12_next_2_0 17 rfl rfl)
theorem dX12_next_2_20 : decode cX12_next_2 20 = .ok (.putfield 26, 3) := dk_181 0 26 (dk_at dksX12_next_2_0 20 rfl rfl)
theorem dX12_next_2_23 : decode cX12_next_2 23 = .ok (.aload_n 0, 1) := dk_42 (dk_at dksX12_next_2_0 23 rfl rfl)
theorem dX12_next_2_24 : decode cX12_next_2 24 = .ok (.getfield 19, 3) := dk_180 0 19 (dk_at dksX12_next_2_1 0 rfl rfl)
theorem dX12_next_2_27 : decode cX12_next_2 27 = .ok (.invokestatic 67, 3) := dk_184 0 67 (dk_at dksX12_next_2_1 3 rfl rfl)
theorem dX12_next_2_30 : decode cX12_next_2 30 = .ok (.areturn, 1) := dk_176 (dk_at dksX12_next_2_1 6 rfl rfl)
theorem q144 : (Jvm.Cond.initialized "CameraMoves$Plan$1") ∈ lw_all := lw_g (lw_at lw_m1 37 rfl) rfl
theorem q523 : (Jvm.Cond.fieldLinkNest "CameraMoves$Plan$1" (29 : Nat) "CameraMoves$Plan" "cues" "Ljava/util/ArrayList;" "CameraMoves") ∈ lw_tbl := lw_at lw_m2 176 rfl
theorem q662 : (Jvm.Cond.instantiable "CameraMoves$Plan$1" (4 : Nat)) ∈ lw_all := lw_g (lw_at lw_m3 75 rfl) rfl
theorem q664 : (Jvm.Cond.instanceMethod ({ cls := "CameraMoves$Plan$1", name := "<init>", desc := "(LCameraMoves$Plan;I)V" } : Jvm.MethodName)) ∈ lw_all := lw_g (lw_at lw_m3 77 rfl) rfl
theorem q665 : (Jvm.Cond.code ({ cls := "CameraMoves$Plan$1", name := "<init>", desc := "(LCameraMoves$Plan;I)V" } : Jvm.MethodName) prog_12_method_1_code (3 : Nat) (Option.none : Option Jvm.ClassFile.FieldType)) ∈ lw_all := lw_g (lw_at lw_m3 78 rfl) rfl
theorem q666 : (Jvm.Cond.methodLink "CameraMoves$Plan$1" (13 : Nat) ({ cls := "java/lang/Object", name := "<init>", desc := "()V" } : Jvm.MethodName)) ∈ lw_all := lw_g (lw_at lw_m3 79 rfl) rfl
theorem q667 : (Jvm.Cond.methodLink "CameraMoves$Plan$1" (22 : Nat) ({ cls := "CameraMoves$Plan$1", name := "find", desc := "()I" } : Jvm.MethodName)) ∈ lw_all := lw_g (lw_at lw_m3 80 rfl) rfl
theorem q668 : (Jvm.Cond.privateMethod ({ cls := "CameraMoves$Plan$1", name := "find", desc := "()I" } : Jvm.MethodName)) ∈ lw_tbl := lw_at lw_m3 81 rfl
theorem q669 : (Jvm.Cond.instanceMethod ({ cls := "CameraMoves$Plan$1", name := "find", desc := "()I" } : Jvm.MethodName)) ∈ lw_all := lw_g (lw_at lw_m3 82 rfl) rfl
theorem q670 : (Jvm.Cond.code ({ cls := "CameraMoves$Plan$1", name := "find", desc := "()I" } : Jvm.MethodName) prog_12_method_3_code (4 : Nat) (Option.some Jvm.ClassFile.FieldType.int)) ∈ lw_all := lw_g (lw_at lw_m3 83 rfl) rfl
theorem q671 : (Jvm.Cond.methodLink "CameraMoves$Plan$1" (46 : Nat) ({ cls := "java/util/ArrayList", name := "size", desc := "()I" } : Jvm.MethodName)) ∈ lw_all := lw_g (lw_at lw_m3 84 rfl) rfl
theorem q672 : (Jvm.Cond.methodLink "CameraMoves$Plan$1" (35 : Nat) ({ cls := "java/util/ArrayList", name := "get", desc := "(I)Ljava/lang/Object;" } : Jvm.MethodName)) ∈ lw_all := lw_g (lw_at lw_m3 85 rfl) rfl
theorem q673 : (Jvm.Cond.classLink "CameraMoves$Plan$1" (41 : Nat) "CameraMoves$Cue") ∈ lw_all := lw_g (lw_at lw_m3 86 rfl) rfl
theorem q674 : (Jvm.Cond.methodLinkNest "CameraMoves$Plan$1" (52 : Nat) ({ cls := "CameraMoves", name := "has", desc := "(II)Z" } : Jvm.MethodName) "CameraMoves") ∈ lw_tbl := lw_at lw_m3 87 rfl
theorem q677 : (Jvm.Cond.methodLink "CameraMoves$Plan$1" (56 : Nat) ({ cls := "CameraMoves$Plan$1", name := "isBehind", desc := "(II)Z" } : Jvm.MethodName)) ∈ lw_all := lw_g (lw_at lw_m3 90 rfl) rfl
theorem q678 : (Jvm.Cond.privateMethod ({ cls := "CameraMoves$Plan$1", name := "isBehind", desc := "(II)Z" } : Jvm.MethodName)) ∈ lw_tbl := lw_at lw_m3 91 rfl
theorem q679 : (Jvm.Cond.instanceMethod ({ cls := "CameraMoves$Plan$1", name := "isBehind", desc := "(II)Z" } : Jvm.MethodName)) ∈ lw_all := lw_g (lw_at lw_m3 92 rfl) rfl
theorem q680 : (Jvm.Cond.code ({ cls := "CameraMoves$Plan$1", name := "isBehind", desc := "(II)Z" } : Jvm.MethodName) prog_12_method_2_code (5 : Nat) (Option.some Jvm.ClassFile.FieldType.boolean)) ∈ lw_all := lw_g (lw_at lw_m3 93 rfl) rfl
theorem q681 : (Jvm.Cond.fieldLink "CameraMoves$Plan$1" (19 : Nat) "CameraMoves$Plan$1" "last" "I") ∈ lw_all := lw_g (lw_at lw_m3 94 rfl) rfl
theorem q682 : (Jvm.Cond.fieldLink "CameraMoves$Plan$1" (26 : Nat) "CameraMoves$Plan$1" "next" "I") ∈ lw_all := lw_g (lw_at lw_m3 95 rfl) rfl
theorem q683 : (Jvm.Cond.fieldLink "CameraMoves$Plan$1" (9 : Nat) "CameraMoves$Plan$1" "val$axis" "I") ∈ lw_all := lw_g (lw_at lw_m3 96 rfl) rfl
theorem q684 : (Jvm.Cond.fieldLink "CameraMoves$Plan$1" (3 : Nat) "CameraMoves$Plan$1" "this$0" "LCameraMoves$Plan;") ∈ lw_all := lw_g (lw_at lw_m3 97 rfl) rfl
theorem q685 : (Jvm.Cond.lays "CameraMoves$Plan$1" "CameraMoves$Plan$1" "last" "I") ∈ lw_all := lw_g (lw_at lw_m3 98 rfl) rfl
theorem q686 : (Jvm.Cond.soleField "CameraMoves$Plan$1" "last") ∈ lw_all := lw_g (lw_at lw_m3 99 rfl) rfl
theorem q687 : (Jvm.Cond.lays "CameraMoves$Plan$1" "CameraMoves$Plan$1" "next" "I") ∈ lw_all := lw_g (lw_at lw_m3 100 rfl) rfl
theorem q688 : (Jvm.Cond.soleField "CameraMoves$Plan$1" "next") ∈ lw_all := lw_g (lw_at lw_m3 101 rfl) rfl
theorem q689 : (Jvm.Cond.laysFinal "CameraMoves$Plan$1" "CameraMoves$Plan$1" "val$axis" "I") ∈ lw_all := lw_g (lw_at lw_m3 102 rfl) rfl
theorem q690 : (Jvm.Cond.soleField "CameraMoves$Plan$1" "val$axis") ∈ lw_all := lw_g (lw_at lw_m3 103 rfl) rfl
theorem q691 : (Jvm.Cond.laysFinal "CameraMoves$Plan$1" "CameraMoves$Plan$1" "this$0" "LCameraMoves$Plan;") ∈ lw_all := lw_g (lw_at lw_m3 104 rfl) rfl
theorem q692 : (Jvm.Cond.soleField "CameraMoves$Plan$1" "this$0") ∈ lw_all := lw_g (lw_at lw_m3 105 rfl) rfl
theorem q693 : (Jvm.Cond.superclass "CameraMoves$Plan$1" "java/lang/Object") ∈ lw_all := lw_g (lw_at lw_m3 106 rfl) rfl
theorem q698 : (Jvm.Cond.castable "CameraMoves$Plan$1" "java/util/Iterator") ∈ lw_tbl := lw_at lw_m3 111 rfl
theorem q699 : (Jvm.Cond.selects "CameraMoves$Plan$1" ({ cls := "java/util/Iterator", name := "hasNext", desc := "()Z" } : Jvm.MethodName) ({ cls := "CameraMoves$Plan$1", name := "hasNext", desc := "()Z" } : Jvm.MethodName)) ∈ lw_all := lw_g (lw_at lw_m3 112 rfl) rfl
theorem q700 : (Jvm.Cond.unhidden "CameraMoves$Plan$1" "hasNext" "()Z") ∈ lw_tbl := lw_at lw_m3 113 rfl
theorem q701 : (Jvm.Cond.instanceMethod ({ cls := "CameraMoves$Plan$1", name := "hasNext", desc := "()Z" } : Jvm.MethodName)) ∈ lw_all := lw_g (lw_at lw_m3 114 rfl) rfl
theorem q702 : (Jvm.Cond.publicMethod ({ cls := "CameraMoves$Plan$1", name := "hasNext", desc := "()Z" } : Jvm.MethodName)) ∈ lw_tbl := lw_at lw_m3 115 rfl
theorem q703 : (Jvm.Cond.code ({ cls := "CameraMoves$Plan$1", name := "hasNext", desc := "()Z" } : Jvm.MethodName) prog_12_method_4_code (1 : Nat) (Option.some Jvm.ClassFile.FieldType.boolean)) ∈ lw_all := lw_g (lw_at lw_m3 116 rfl) rfl
theorem q714 : (Jvm.Cond.selects "CameraMoves$Plan$1" ({ cls := "java/util/Iterator", name := "next", desc := "()Ljava/lang/Object;" } : Jvm.MethodName) ({ cls := "CameraMoves$Plan$1", name := "next", desc := "()Ljava/lang/Object;" } : Jvm.MethodName)) ∈ lw_all := lw_g (lw_at lw_m3 127 rfl) rfl
theorem q715 : (Jvm.Cond.unhidden "CameraMoves$Plan$1" "next" "()Ljava/lang/Object;") ∈ lw_tbl := lw_at lw_m3 128 rfl
theorem q716 : (Jvm.Cond.instanceMethod ({ cls := "CameraMoves$Plan$1", name := "next", desc := "()Ljava/lang/Object;" } : Jvm.MethodName)) ∈ lw_all := lw_g (lw_at lw_m3 129 rfl) rfl
theorem q717 : (Jvm.Cond.publicMethod ({ cls := "CameraMoves$Plan$1", name := "next", desc := "()Ljava/lang/Object;" } : Jvm.MethodName)) ∈ lw_tbl := lw_at lw_m3 130 rfl
theorem q718 : (Jvm.Cond.code ({ cls := "CameraMoves$Plan$1", name := "next", desc := "()Ljava/lang/Object;" } : Jvm.MethodName) prog_12_method_6_code (1 : Nat) (Option.some (Jvm.ClassFile.FieldType.object "java/lang/Object"))) ∈ lw_all := lw_g (lw_at lw_m3 131 rfl) rfl
theorem q719 : (Jvm.Cond.methodLink "CameraMoves$Plan$1" (73 : Nat) ({ cls := "CameraMoves$Plan$1", name := "next", desc := "()Ljava/lang/Integer;" } : Jvm.MethodName)) ∈ lw_all := lw_g (lw_at lw_m3 132 rfl) rfl
theorem q720 : (Jvm.Cond.instanceMethod ({ cls := "CameraMoves$Plan$1", name := "next", desc := "()Ljava/lang/Integer;" } : Jvm.MethodName)) ∈ lw_all := lw_g (lw_at lw_m3 133 rfl) rfl
theorem q721 : (Jvm.Cond.selects "CameraMoves$Plan$1" ({ cls := "CameraMoves$Plan$1", name := "next", desc := "()Ljava/lang/Integer;" } : Jvm.MethodName) ({ cls := "CameraMoves$Plan$1", name := "next", desc := "()Ljava/lang/Integer;" } : Jvm.MethodName)) ∈ lw_all := lw_g (lw_at lw_m3 134 rfl) rfl
theorem q722 : (Jvm.Cond.code ({ cls := "CameraMoves$Plan$1", name := "next", desc := "()Ljava/lang/Integer;" } : Jvm.MethodName) prog_12_method_5_code (1 : Nat) (Option.some (Jvm.ClassFile.FieldType.object "java/lang/Integer"))) ∈ lw_all := lw_g (lw_at lw_m3 135 rfl) rfl
theorem q723 : (Jvm.Cond.methodLink "CameraMoves$Plan$1" (59 : Nat) ({ cls := "CameraMoves$Plan$1", name := "hasNext", desc := "()Z" } : Jvm.MethodName)) ∈ lw_all := lw_g (lw_at lw_m3 136 rfl) rfl
theorem q724 : (Jvm.Cond.methodLinkNest "CameraMoves$Plan$1" (63 : Nat) ({ cls := "CameraMoves", name := "requireElement", desc := "(Z)V" } : Jvm.MethodName) "CameraMoves") ∈ lw_tbl := lw_at lw_m3 137 rfl
theorem q748 : (Jvm.Cond.methodLink "CameraMoves$Plan$1" (67 : Nat) ({ cls := "java/lang/Integer", name := "valueOf", desc := "(I)Ljava/lang/Integer;" } : Jvm.MethodName)) ∈ lw_all := lw_g (lw_at lw_m3 161 rfl) rfl
theorem q1213 : (Jvm.Cond.selects "CameraMoves$Plan$1" ({ cls := "java/lang/Object", name := "getClass", desc := "()Ljava/lang/Class;" } : Jvm.MethodName) ({ cls := "java/lang/Object", name := "getClass", desc := "()Ljava/lang/Class;" } : Jvm.MethodName)) ∈ lw_all := lw_g (lw_at lw_m5 146 rfl) rfl
theorem q1252 : (Jvm.Cond.fieldLinkNest "CameraMoves$Plan$1" (43 : Nat) "CameraMoves$Cue" "frame" "I" "CameraMoves") ∈ lw_tbl := lw_at lw_m5 185 rfl
theorem q1259 : (Jvm.Cond.fieldLinkNest "CameraMoves$Plan$1" (49 : Nat) "CameraMoves$Cue" "axes" "I" "CameraMoves") ∈ lw_tbl := lw_at lw_m5 192 rfl
theorem q2662 : (Jvm.Cond.selects "CameraMoves$Plan$1" ({ cls := "CameraMoves$Plan$1", name := "hasNext", desc := "()Z" } : Jvm.MethodName) ({ cls := "CameraMoves$Plan$1", name := "hasNext", desc := "()Z" } : Jvm.MethodName)) ∈ lw_all := lw_g (lw_at lw_m11 155 rfl) rfl
theorem q2691 : (Jvm.Cond.castable "CameraMoves$Plan$1" "java/lang/Object") ∈ lw_tbl := lw_at lw_m11 184 rfl
theorem in_X12 : ∀ w ∈ wsX120, w ∈ lw_all := lw_in wsX120 [685, 687, 689, 691] (by decide +kernel) (by decide +kernel)

/-! CameraMoves$Measure -/
set_option maxRecDepth 100000
def RX13 : String := "CameraMoves$Measure"
abbrev cX13_init : ByteArray := prog_8_method_1_code
def yX13_init : MethodName := ⟨RX13, "<init>", "()V"⟩
theorem dX13_init_0 : decode cX13_init 0 = .ok (.aload_n 0, 1) := by decide +kernel
theorem dX13_init_1 : decode cX13_init 1 = .ok (.invokespecial 1, 3) := by decide +kernel
theorem dX13_init_4 : decode cX13_init 4 = .ok (.return_, 1) := by decide +kernel
theorem q146 : (Jvm.Cond.initialized "CameraMoves$Measure") ∈ lw_all := lw_g (lw_at lw_m1 39 rfl) rfl
theorem q1539 : (Jvm.Cond.instanceMethod ({ cls := "CameraMoves$Measure", name := "<init>", desc := "()V" } : Jvm.MethodName)) ∈ lw_all := lw_g (lw_at lw_m6 232 rfl) rfl
theorem q1540 : (Jvm.Cond.code ({ cls := "CameraMoves$Measure", name := "<init>", desc := "()V" } : Jvm.MethodName) prog_8_method_1_code (1 : Nat) (Option.none : Option Jvm.ClassFile.FieldType)) ∈ lw_all := lw_g (lw_at lw_m6 233 rfl) rfl
theorem q1541 : (Jvm.Cond.methodLink "CameraMoves$Measure" (1 : Nat) ({ cls := "java/lang/Object", name := "<init>", desc := "()V" } : Jvm.MethodName)) ∈ lw_all := lw_g (lw_at lw_m6 234 rfl) rfl
theorem q1551 : (Jvm.Cond.declares ({ cls := "CameraMoves$Measure", name := "with", desc := "(II)I" } : Jvm.MethodName)) ∈ lw_tbl := lw_at lw_m7 4 rfl
theorem q1552 : (Jvm.Cond.sameMethod "CameraMoves$Measure" "CameraMoves$Measure" "with" "(II)I") ∈ lw_all := lw_g (lw_at lw_m7 5 rfl) rfl

/-! CameraMoves$Film$1 -/
set_option maxRecDepth 100000
def RX14 : String := "CameraMoves$Film$1"
def TX14 : u_T := fun k => match k with
  | _ => ("CameraMoves$Film$1", "this$0", "LCameraMoves$Film;", true)
def tyX14 : Nat → FieldType := fun k => match k with
  | _ => .object "CameraMoves$Film"
abbrev wsX140 : List Cond := u_ws RX14 TX14 1
theorem nmX14 : ∀ a, a < 1 → ∀ b, b < 1 → a ≠ b → (TX14 a).2.1 ≠ (TX14 b).2.1 := by decide +kernel
theorem tyX14_ok : ∀ k, k < 1 → parseFieldDescriptor (TX14 k).2.2.1 = some (tyX14 k) := by decide +kernel
abbrev cX14_init : ByteArray := prog_7_method_1_code
def yX14_init : MethodName := ⟨RX14, "<init>", "(LCameraMoves$Film;)V"⟩
def dkwX14_init_0 : List UInt8 := [42, 43, 181, 0, 1, 42, 183, 0, 7, 177]
abbrev dktX14_init_0 : List UInt8 := dkwX14_init_0 ++ []
theorem dksX14_init_0 : cX14_init.data.toList.drop 0 = dktX14_init_0 := by decide +kernel
theorem dX14_init_0 : decode cX14_init 0 = .ok (.aload_n 0, 1) := dk_42 (dk_at dksX14_init_0 0 rfl rfl)
theorem dX14_init_1 : decode cX14_init 1 = .ok (.aload_n 1, 1) := dk_43 (dk_at dksX14_init_0 1 rfl rfl)
theorem dX14_init_2 : decode cX14_init 2 = .ok (.putfield 1, 3) := dk_181 0 1 (dk_at dksX14_init_0 2 rfl rfl)
theorem dX14_init_5 : decode cX14_init 5 = .ok (.aload_n 0, 1) := dk_42 (dk_at dksX14_init_0 5 rfl rfl)
theorem dX14_init_6 : decode cX14_init 6 = .ok (.invokespecial 7, 3) := dk_183 0 7 (dk_at dksX14_init_0 6 rfl rfl)
theorem dX14_init_9 : decode cX14_init 9 = .ok (.return_, 1) := dk_177 (dk_at dksX14_init_0 9 rfl rfl)
abbrev cX14_with : ByteArray := prog_7_method_2_code
def yX14_with : MethodName := ⟨RX14, "with", "(II)I"⟩
def dkwX14_with_0 : List UInt8 := [27, 28, 184, 0, 13, 96, 172]
abbrev dktX14_with_0 : List UInt8 := dkwX14_with_0 ++ []
theorem dksX14_with_0 : cX14_with.data.toList.drop 0 = dktX14_with_0 := by decide +kernel
theorem dX14_with_0 : decode cX14_with 0 = .ok (.iload_n 1, 1) := dk_27 (dk_at dksX14_with_0 0 rfl rfl)
theorem dX14_with_1 : decode cX14_with 1 = .ok (.iload_n 2, 1) := dk_28 (dk_at dksX14_with_0 1 rfl rfl)
theorem dX14_with_2 : decode cX14_with 2 = .ok (.invokestatic 13, 3) := dk_184 0 13 (dk_at dksX14_with_0 2 rfl rfl)
theorem dX14_with_5 : decode cX14_with 5 = .ok (.iadd, 1) := dk_96 (dk_at dksX14_with_0 5 rfl rfl)
theorem dX14_with_6 : decode cX14_with 6 = .ok (.ireturn, 1) := dk_172 (dk_at dksX14_with_0 6 rfl rfl)
theorem q147 : (Jvm.Cond.initialized "CameraMoves$Film$1") ∈ lw_all := lw_g (lw_at lw_m1 40 rfl) rfl
theorem q1209 : (Jvm.Cond.selects "CameraMoves$Film$1" ({ cls := "java/lang/Object", name := "getClass", desc := "()Ljava/lang/Class;" } : Jvm.MethodName) ({ cls := "java/lang/Object", name := "getClass", desc := "()Ljava/lang/Class;" } : Jvm.MethodName)) ∈ lw_all := lw_g (lw_at lw_m5 142 rfl) rfl
theorem q1534 : (Jvm.Cond.instantiable "CameraMoves$Film$1" (1 : Nat)) ∈ lw_all := lw_g (lw_at lw_m6 227 rfl) rfl
theorem q1536 : (Jvm.Cond.instanceMethod ({ cls := "CameraMoves$Film$1", name := "<init>", desc := "(LCameraMoves$Film;)V" } : Jvm.MethodName)) ∈ lw_all := lw_g (lw_at lw_m6 229 rfl) rfl
theorem q1537 : (Jvm.Cond.code ({ cls := "CameraMoves$Film$1", name := "<init>", desc := "(LCameraMoves$Film;)V" } : Jvm.MethodName) prog_7_method_1_code (2 : Nat) (Option.none : Option Jvm.ClassFile.FieldType)) ∈ lw_all := lw_g (lw_at lw_m6 230 rfl) rfl
theorem q1538 : (Jvm.Cond.methodLinkNest "CameraMoves$Film$1" (7 : Nat) ({ cls := "CameraMoves$Measure", name := "<init>", desc := "()V" } : Jvm.MethodName) "CameraMoves") ∈ lw_tbl := lw_at lw_m6 231 rfl
theorem q1542 : (Jvm.Cond.fieldLink "CameraMoves$Film$1" (1 : Nat) "CameraMoves$Film$1" "this$0" "LCameraMoves$Film;") ∈ lw_all := lw_g (lw_at lw_m6 235 rfl) rfl
theorem q1543 : (Jvm.Cond.laysFinal "CameraMoves$Film$1" "CameraMoves$Film$1" "this$0" "LCameraMoves$Film;") ∈ lw_all := lw_g (lw_at lw_m6 236 rfl) rfl
theorem q1544 : (Jvm.Cond.soleField "CameraMoves$Film$1" "this$0") ∈ lw_all := lw_g (lw_at lw_m6 237 rfl) rfl
theorem q1545 : (Jvm.Cond.superclass "CameraMoves$Film$1" "CameraMoves$Measure") ∈ lw_all := lw_g (lw_at lw_m6 238 rfl) rfl
theorem q1561 : (Jvm.Cond.selects "CameraMoves$Film$1" ({ cls := "CameraMoves$Measure", name := "with", desc := "(II)I" } : Jvm.MethodName) ({ cls := "CameraMoves$Film$1", name := "with", desc := "(II)I" } : Jvm.MethodName)) ∈ lw_all := lw_g (lw_at lw_m7 14 rfl) rfl
theorem q1562 : (Jvm.Cond.instanceMethod ({ cls := "CameraMoves$Film$1", name := "with", desc := "(II)I" } : Jvm.MethodName)) ∈ lw_all := lw_g (lw_at lw_m7 15 rfl) rfl
theorem q1563 : (Jvm.Cond.code ({ cls := "CameraMoves$Film$1", name := "with", desc := "(II)I" } : Jvm.MethodName) prog_7_method_2_code (3 : Nat) (Option.some Jvm.ClassFile.FieldType.int)) ∈ lw_all := lw_g (lw_at lw_m7 16 rfl) rfl
theorem q1564 : (Jvm.Cond.methodLink "CameraMoves$Film$1" (13 : Nat) ({ cls := "java/lang/Math", name := "abs", desc := "(I)I" } : Jvm.MethodName)) ∈ lw_all := lw_g (lw_at lw_m7 17 rfl) rfl
theorem q2693 : (Jvm.Cond.castable "CameraMoves$Film$1" "java/lang/Object") ∈ lw_tbl := lw_at lw_m11 186 rfl
theorem in_X14 : ∀ w ∈ wsX140, w ∈ lw_all := lw_in wsX140 [1543] (by decide +kernel) (by decide +kernel)

/-! CameraMoves$1Fastest -/
set_option maxRecDepth 100000
def RX15 : String := "CameraMoves$1Fastest"
def TX15 : u_T := fun k => match k with
  | _ => ("CameraMoves$1Fastest", "this$0", "LCameraMoves;", true)
def tyX15 : Nat → FieldType := fun k => match k with
  | _ => .object "CameraMoves"
abbrev wsX150 : List Cond := u_ws RX15 TX15 1
theorem nmX15 : ∀ a, a < 1 → ∀ b, b < 1 → a ≠ b → (TX15 a).2.1 ≠ (TX15 b).2.1 := by decide +kernel
theorem tyX15_ok : ∀ k, k < 1 → parseFieldDescriptor (TX15 k).2.2.1 = some (tyX15 k) := by decide +kernel
abbrev cX15_with : ByteArray := prog_3_method_2_code
def yX15_with : MethodName := ⟨RX15, "with", "(II)I"⟩
def dkwX15_with_0 : List UInt8 := [27, 28, 184, 0, 13, 184, 0, 19, 172]
abbrev dktX15_with_0 : List UInt8 := dkwX15_with_0 ++ []
theorem dksX15_with_0 : cX15_with.data.toList.drop 0 = dktX15_with_0 := by decide +kernel
theorem dX15_with_0 : decode cX15_with 0 = .ok (.iload_n 1, 1) := dk_27 (dk_at dksX15_with_0 0 rfl rfl)
theorem dX15_with_1 : decode cX15_with 1 = .ok (.iload_n 2, 1) := dk_28 (dk_at dksX15_with_0 1 rfl rfl)
theorem dX15_with_2 : decode cX15_with 2 = .ok (.invokestatic 13, 3) := dk_184 0 13 (dk_at dksX15_with_0 2 rfl rfl)
theorem dX15_with_5 : decode cX15_with 5 = .ok (.invokestatic 19, 3) := dk_184 0 19 (dk_at dksX15_with_0 5 rfl rfl)
theorem dX15_with_8 : decode cX15_with 8 = .ok (.ireturn, 1) := dk_172 (dk_at dksX15_with_0 8 rfl rfl)
abbrev cX15_init : ByteArray := prog_3_method_1_code
def yX15_init : MethodName := ⟨RX15, "<init>", "(LCameraMoves;)V"⟩
def dkwX15_init_0 : List UInt8 := [42, 43, 181, 0, 1, 42, 183, 0, 7, 177]
abbrev dktX15_init_0 : List UInt8 := dkwX15_init_0 ++ []
theorem dksX15_init_0 : cX15_init.data.toList.drop 0 = dktX15_init_0 := by decide +kernel
theorem dX15_init_0 : decode cX15_init 0 = .ok (.aload_n 0, 1) := dk_42 (dk_at dksX15_init_0 0 rfl rfl)
theorem dX15_init_1 : decode cX15_init 1 = .ok (.aload_n 1, 1) := dk_43 (dk_at dksX15_init_0 1 rfl rfl)
theorem dX15_init_2 : decode cX15_init 2 = .ok (.putfield 1, 3) := dk_181 0 1 (dk_at dksX15_init_0 2 rfl rfl)
theorem dX15_init_5 : decode cX15_init 5 = .ok (.aload_n 0, 1) := dk_42 (dk_at dksX15_init_0 5 rfl rfl)
theorem dX15_init_6 : decode cX15_init 6 = .ok (.invokespecial 7, 3) := dk_183 0 7 (dk_at dksX15_init_0 6 rfl rfl)
theorem dX15_init_9 : decode cX15_init 9 = .ok (.return_, 1) := dk_177 (dk_at dksX15_init_0 9 rfl rfl)
theorem q148 : (Jvm.Cond.initialized "CameraMoves$1Fastest") ∈ lw_all := lw_g (lw_at lw_m1 41 rfl) rfl
theorem q1205 : (Jvm.Cond.selects "CameraMoves$1Fastest" ({ cls := "java/lang/Object", name := "getClass", desc := "()Ljava/lang/Class;" } : Jvm.MethodName) ({ cls := "java/lang/Object", name := "getClass", desc := "()Ljava/lang/Class;" } : Jvm.MethodName)) ∈ lw_all := lw_g (lw_at lw_m5 138 rfl) rfl
theorem q1556 : (Jvm.Cond.selects "CameraMoves$1Fastest" ({ cls := "CameraMoves$Measure", name := "with", desc := "(II)I" } : Jvm.MethodName) ({ cls := "CameraMoves$1Fastest", name := "with", desc := "(II)I" } : Jvm.MethodName)) ∈ lw_all := lw_g (lw_at lw_m7 9 rfl) rfl
theorem q1557 : (Jvm.Cond.instanceMethod ({ cls := "CameraMoves$1Fastest", name := "with", desc := "(II)I" } : Jvm.MethodName)) ∈ lw_all := lw_g (lw_at lw_m7 10 rfl) rfl
theorem q1558 : (Jvm.Cond.code ({ cls := "CameraMoves$1Fastest", name := "with", desc := "(II)I" } : Jvm.MethodName) prog_3_method_2_code (3 : Nat) (Option.some Jvm.ClassFile.FieldType.int)) ∈ lw_all := lw_g (lw_at lw_m7 11 rfl) rfl
theorem q1559 : (Jvm.Cond.methodLink "CameraMoves$1Fastest" (13 : Nat) ({ cls := "java/lang/Math", name := "abs", desc := "(I)I" } : Jvm.MethodName)) ∈ lw_all := lw_g (lw_at lw_m7 12 rfl) rfl
theorem q1560 : (Jvm.Cond.methodLink "CameraMoves$1Fastest" (19 : Nat) ({ cls := "java/lang/Math", name := "max", desc := "(II)I" } : Jvm.MethodName)) ∈ lw_all := lw_g (lw_at lw_m7 13 rfl) rfl
theorem q1573 : (Jvm.Cond.instantiable "CameraMoves$1Fastest" (1 : Nat)) ∈ lw_all := lw_g (lw_at lw_m7 26 rfl) rfl
theorem q1575 : (Jvm.Cond.instanceMethod ({ cls := "CameraMoves$1Fastest", name := "<init>", desc := "(LCameraMoves;)V" } : Jvm.MethodName)) ∈ lw_all := lw_g (lw_at lw_m7 28 rfl) rfl
theorem q1576 : (Jvm.Cond.code ({ cls := "CameraMoves$1Fastest", name := "<init>", desc := "(LCameraMoves;)V" } : Jvm.MethodName) prog_3_method_1_code (2 : Nat) (Option.none : Option Jvm.ClassFile.FieldType)) ∈ lw_all := lw_g (lw_at lw_m7 29 rfl) rfl
theorem q1577 : (Jvm.Cond.methodLinkNest "CameraMoves$1Fastest" (7 : Nat) ({ cls := "CameraMoves$Measure", name := "<init>", desc := "()V" } : Jvm.MethodName) "CameraMoves") ∈ lw_tbl := lw_at lw_m7 30 rfl
theorem q1578 : (Jvm.Cond.fieldLink "CameraMoves$1Fastest" (1 : Nat) "CameraMoves$1Fastest" "this$0" "LCameraMoves;") ∈ lw_all := lw_g (lw_at lw_m7 31 rfl) rfl
theorem q1579 : (Jvm.Cond.laysFinal "CameraMoves$1Fastest" "CameraMoves$1Fastest" "this$0" "LCameraMoves;") ∈ lw_all := lw_g (lw_at lw_m7 32 rfl) rfl
theorem q1580 : (Jvm.Cond.soleField "CameraMoves$1Fastest" "this$0") ∈ lw_all := lw_g (lw_at lw_m7 33 rfl) rfl
theorem q1581 : (Jvm.Cond.superclass "CameraMoves$1Fastest" "CameraMoves$Measure") ∈ lw_all := lw_g (lw_at lw_m7 34 rfl) rfl
theorem q2694 : (Jvm.Cond.castable "CameraMoves$1Fastest" "java/lang/Object") ∈ lw_tbl := lw_at lw_m11 187 rfl
theorem in_X15 : ∀ w ∈ wsX150, w ∈ lw_all := lw_in wsX150 [1579] (by decide +kernel) (by decide +kernel)

/-! CameraMoves$1 -/
set_option maxRecDepth 100000
def RX16 : String := "CameraMoves$1"
def TX16 : u_T := fun k => match k with
  | _ => ("CameraMoves$1", "this$0", "LCameraMoves;", true)
def tyX16 : Nat → FieldType := fun k => match k with
  | _ => .object "CameraMoves"
abbrev wsX160 : List Cond := u_ws RX16 TX16 1
theorem nmX16 : ∀ a, a < 1 → ∀ b, b < 1 → a ≠ b → (TX16 a).2.1 ≠ (TX16 b).2.1 := by decide +kernel
theorem tyX16_ok : ∀ k, k < 1 → parseFieldDescriptor (TX16 k).2.2.1 = some (tyX16 k) := by decide +kernel
abbrev cX16_with : ByteArray := prog_2_method_2_code
def yX16_with : MethodName := ⟨RX16, "with", "(II)I"⟩
def dkwX16_with_0 : List UInt8 := [27, 28, 154, 0, 7, 3, 167, 0, 4, 4, 96, 172]
abbrev dktX16_with_0 : List UInt8 := dkwX16_with_0 ++ []
theorem dksX16_with_0 : cX16_with.data.toList.drop 0 = dktX16_with_0 := by decide +kernel
theorem dX16_with_0 : decode cX16_with 0 = .ok (.iload_n 1, 1) := dk_27 (dk_at dksX16_with_0 0 rfl rfl)
theorem dX16_with_1 : decode cX16_with 1 = .ok (.iload_n 2, 1) := dk_28 (dk_at dksX16_with_0 1 rfl rfl)
theorem dX16_with_2 : decode cX16_with 2 = .ok (.ifCond .ne 7, 3) := dk_154 0 7 (dk_at dksX16_with_0 2 rfl rfl)
theorem dX16_with_5 : decode cX16_with 5 = .ok (.iconst 0, 1) := dk_3 (dk_at dksX16_with_0 5 rfl rfl)
theorem dX16_with_6 : decode cX16_with 6 = .ok (.goto 4, 3) := dk_167 0 4 (dk_at dksX16_with_0 6 rfl rfl)
theorem dX16_with_9 : decode cX16_with 9 = .ok (.iconst 1, 1) := dk_4 (dk_at dksX16_with_0 9 rfl rfl)
theorem dX16_with_10 : decode cX16_with 10 = .ok (.iadd, 1) := dk_96 (dk_at dksX16_with_0 10 rfl rfl)
theorem dX16_with_11 : decode cX16_with 11 = .ok (.ireturn, 1) := dk_172 (dk_at dksX16_with_0 11 rfl rfl)
abbrev cX16_init : ByteArray := prog_2_method_1_code
def yX16_init : MethodName := ⟨RX16, "<init>", "(LCameraMoves;)V"⟩
def dkwX16_init_0 : List UInt8 := [42, 43, 181, 0, 1, 42, 183, 0, 7, 177]
abbrev dktX16_init_0 : List UInt8 := dkwX16_init_0 ++ []
theorem dksX16_init_0 : cX16_init.data.toList.drop 0 = dktX16_init_0 := by decide +kernel
theorem dX16_init_0 : decode cX16_init 0 = .ok (.aload_n 0, 1) := dk_42 (dk_at dksX16_init_0 0 rfl rfl)
theorem dX16_init_1 : decode cX16_init 1 = .ok (.aload_n 1, 1) := dk_43 (dk_at dksX16_init_0 1 rfl rfl)
theorem dX16_init_2 : decode cX16_init 2 = .ok (.putfield 1, 3) := dk_181 0 1 (dk_at dksX16_init_0 2 rfl rfl)
theorem dX16_init_5 : decode cX16_init 5 = .ok (.aload_n 0, 1) := dk_42 (dk_at dksX16_init_0 5 rfl rfl)
theorem dX16_init_6 : decode cX16_init 6 = .ok (.invokespecial 7, 3) := dk_183 0 7 (dk_at dksX16_init_0 6 rfl rfl)
theorem dX16_init_9 : decode cX16_init 9 = .ok (.return_, 1) := dk_177 (dk_at dksX16_init_0 9 rfl rfl)
theorem q149 : (Jvm.Cond.initialized "CameraMoves$1") ∈ lw_all := lw_g (lw_at lw_m1 42 rfl) rfl
theorem q1204 : (Jvm.Cond.selects "CameraMoves$1" ({ cls := "java/lang/Object", name := "getClass", desc := "()Ljava/lang/Class;" } : Jvm.MethodName) ({ cls := "java/lang/Object", name := "getClass", desc := "()Ljava/lang/Class;" } : Jvm.MethodName)) ∈ lw_all := lw_g (lw_at lw_m5 137 rfl) rfl
theorem q1553 : (Jvm.Cond.selects "CameraMoves$1" ({ cls := "CameraMoves$Measure", name := "with", desc := "(II)I" } : Jvm.MethodName) ({ cls := "CameraMoves$1", name := "with", desc := "(II)I" } : Jvm.MethodName)) ∈ lw_all := lw_g (lw_at lw_m7 6 rfl) rfl
theorem q1554 : (Jvm.Cond.instanceMethod ({ cls := "CameraMoves$1", name := "with", desc := "(II)I" } : Jvm.MethodName)) ∈ lw_all := lw_g (lw_at lw_m7 7 rfl) rfl
theorem q1555 : (Jvm.Cond.code ({ cls := "CameraMoves$1", name := "with", desc := "(II)I" } : Jvm.MethodName) prog_2_method_2_code (3 : Nat) (Option.some Jvm.ClassFile.FieldType.int)) ∈ lw_all := lw_g (lw_at lw_m7 8 rfl) rfl
theorem q1591 : (Jvm.Cond.instantiable "CameraMoves$1" (1 : Nat)) ∈ lw_all := lw_g (lw_at lw_m7 44 rfl) rfl
theorem q1593 : (Jvm.Cond.instanceMethod ({ cls := "CameraMoves$1", name := "<init>", desc := "(LCameraMoves;)V" } : Jvm.MethodName)) ∈ lw_all := lw_g (lw_at lw_m7 46 rfl) rfl
theorem q1594 : (Jvm.Cond.code ({ cls := "CameraMoves$1", name := "<init>", desc := "(LCameraMoves;)V" } : Jvm.MethodName) prog_2_method_1_code (2 : Nat) (Option.none : Option Jvm.ClassFile.FieldType)) ∈ lw_all := lw_g (lw_at lw_m7 47 rfl) rfl
theorem q1595 : (Jvm.Cond.methodLinkNest "CameraMoves$1" (7 : Nat) ({ cls := "CameraMoves$Measure", name := "<init>", desc := "()V" } : Jvm.MethodName) "CameraMoves") ∈ lw_tbl := lw_at lw_m7 48 rfl
theorem q1596 : (Jvm.Cond.fieldLink "CameraMoves$1" (1 : Nat) "CameraMoves$1" "this$0" "LCameraMoves;") ∈ lw_all := lw_g (lw_at lw_m7 49 rfl) rfl
theorem q1597 : (Jvm.Cond.laysFinal "CameraMoves$1" "CameraMoves$1" "this$0" "LCameraMoves;") ∈ lw_all := lw_g (lw_at lw_m7 50 rfl) rfl
theorem q1598 : (Jvm.Cond.soleField "CameraMoves$1" "this$0") ∈ lw_all := lw_g (lw_at lw_m7 51 rfl) rfl
theorem q1599 : (Jvm.Cond.superclass "CameraMoves$1" "CameraMoves$Measure") ∈ lw_all := lw_g (lw_at lw_m7 52 rfl) rfl
theorem q2695 : (Jvm.Cond.castable "CameraMoves$1" "java/lang/Object") ∈ lw_tbl := lw_at lw_m11 188 rfl
theorem in_X16 : ∀ w ∈ wsX160, w ∈ lw_all := lw_in wsX160 [1597] (by decide +kernel) (by decide +kernel)

/-! CameraMoves$Plan -/
set_option maxRecDepth 100000
def RX2 : String := "CameraMoves$Plan"
def TX2 : u_T := fun k => match k with
  | 0 => ("CameraMoves$Plan", "axes", "Ljava/util/ArrayList;", true)
  | 1 => ("CameraMoves$Plan", "cues", "Ljava/util/ArrayList;", true)
  | 2 => ("CameraMoves$Plan", "walls", "Ljava/util/ArrayList;", true)
  | _ => ("CameraMoves$Plan", "passes", "Ljava/util/ArrayList;", true)
def tyX2 : Nat → FieldType := fun k => match k with
  | 0 => .object "java/util/ArrayList"
  | 1 => .object "java/util/ArrayList"
  | 2 => .object "java/util/ArrayList"
  | _ => .object "java/util/ArrayList"
abbrev wsX20 : List Cond := u_ws RX2 TX2 4
theorem nmX2 : ∀ a, a < 4 → ∀ b, b < 4 → a ≠ b → (TX2 a).2.1 ≠ (TX2 b).2.1 := by decide +kernel
theorem tyX2_ok : ∀ k, k < 4 → parseFieldDescriptor (TX2 k).2.2.1 = some (tyX2 k) := by decide +kernel
abbrev cX2_init : ByteArray := prog_11_method_1_code
def yX2_init : MethodName := ⟨RX2, "<init>", "(Ljava/util/ArrayList;)V"⟩
def dkwX2_init_2 : List UInt8 := [177]
abbrev dktX2_init_2 : List UInt8 := dkwX2_init_2 ++ []
def dkwX2_init_1 : List UInt8 := [183, 0, 11, 181, 0, 20, 42, 187, 0, 9, 89, 16, 6, 183, 0, 11, 181, 0, 23, 42, 43, 181, 0, 26]
abbrev dktX2_init_1 : List UInt8 := dkwX2_init_1 ++ dktX2_init_2
def dkwX2_init_0 : List UInt8 := [42, 183, 0, 3, 42, 187, 0, 9, 89, 7, 183, 0, 11, 181, 0, 14, 42, 187, 0, 9, 89, 16, 20]
abbrev dktX2_init_0 : List UInt8 := dkwX2_init_0 ++ dktX2_init_1
theorem dksX2_init_0 : cX2_init.data.toList.drop 0 = dktX2_init_0 := by decide +kernel
theorem dksX2_init_1 : cX2_init.data.toList.drop 23 = dktX2_init_1 := dk_seg dksX2_init_0 23 rfl rfl
theorem dksX2_init_2 : cX2_init.data.toList.drop 47 = dktX2_init_2 := dk_seg dksX2_init_1 24 rfl rfl
theorem dX2_init_0 : decode cX2_init 0 = .ok (.aload_n 0, 1) := dk_42 (dk_at dksX2_init_0 0 rfl rfl)
theorem dX2_init_1 : decode cX2_init 1 = .ok (.invokespecial 3, 3) := dk_183 0 3 (dk_at dksX2_init_0 1 rfl rfl)
theorem dX2_init_4 : decode cX2_init 4 = .ok (.aload_n 0, 1) := dk_42 (dk_at dksX2_init_0 4 rfl rfl)
theorem dX2_init_5 : decode cX2_init 5 = .ok (.new 9, 3) := dk_187 0 9 (dk_at dksX2_init_0 5 rfl rfl)
theorem dX2_init_8 : decode cX2_init 8 = .ok (.dup, 1) := dk_89 (dk_at dksX2_init_0 8 rfl rfl)
theorem dX2_init_9 : decode cX2_init 9 = .ok (.iconst 4, 1) := dk_7 (dk_at dksX2_init_0 9 rfl rfl)
theorem dX2_init_10 : decode cX2_init 10 = .ok (.invokespecial 11, 3) := dk_183 0 11 (dk_at dksX2_init_0 10 rfl rfl)
theorem dX2_init_13 : decode cX2_init 13 = .ok (.putfield 14, 3) := dk_181 0 14 (dk_at dksX2_init_0 13 rfl rfl)
theorem dX2_init_16 : decode cX2_init 16 = .ok (.aload_n 0, 1) := dk_42 (dk_at dksX2_init_0 16 rfl rfl)
theorem dX2_init_17 : decode cX2_init 17 = .ok (.new 9, 3) := dk_187 0 9 (dk_at dksX2_init_0 17 rfl rfl)
theorem dX2_init_20 : decode cX2_init 20 = .ok (.dup, 1) := dk_89 (dk_at dksX2_init_0 20 rfl rfl)
theorem dX2_init_21 : decode cX2_init 21 = .ok (.bipush 20, 2) := dk_16 20 (dk_at dksX2_init_0 21 rfl rfl)
theorem dX2_init_23 : decode cX2_init 23 = .ok (.invokespecial 11, 3) := dk_183 0 11 (dk_at dksX2_init_1 0 rfl rfl)
theorem dX2_init_26 : decode cX2_init 26 = .ok (.putfield 20, 3) := dk_181 0 20 (dk_at dksX2_init_1 3 rfl rfl)
theorem dX2_init_29 : decode cX2_init 29 = .ok (.aload_n 0, 1) := dk_42 (dk_at dksX2_init_1 6 rfl rfl)
theorem dX2_init_30 : decode cX2_init 30 = .ok (.new 9, 3) := dk_187 0 9 (dk_at dksX2_init_1 7 rfl rfl)
theorem dX2_init_33 : decode cX2_init 33 = .ok (.dup, 1) := dk_89 (dk_at dksX2_init_1 10 rfl rfl)
theorem dX2_init_34 : decode cX2_init 34 = .ok (.bipush 6, 2) := dk_16 6 (dk_at dksX2_init_1 11 rfl rfl)
theorem dX2_init_36 : decode cX2_init 36 = .ok (.invokespecial 11, 3) := dk_183 0 11 (dk_at dksX2_init_1 13 rfl rfl)
theorem dX2_init_39 : decode cX2_init 39 = .ok (.putfield 23, 3) := dk_181 0 23 (dk_at dksX2_init_1 16 rfl rfl)
theorem dX2_init_42 : decode cX2_init 42 = .ok (.aload_n 0, 1) := dk_42 (dk_at dksX2_init_1 19 rfl rfl)
theorem dX2_init_43 : decode cX2_init 43 = .ok (.aload_n 1, 1) := dk_43 (dk_at dksX2_init_1 20 rfl rfl)
theorem dX2_init_44 : decode cX2_init 44 = .ok (.putfield 26, 3) := dk_181 0 26 (dk_at dksX2_init_1 21 rfl rfl)
theorem dX2_init_47 : decode cX2_init 47 = .ok (.return_, 1) := dk_177 (dk_at dksX2_init_2 0 rfl rfl)
abbrev cX2_inOrder : ByteArray := prog_11_method_3_code
def yX2_inOrder : MethodName := ⟨RX2, "inOrder", "(I)Ljava/util/Iterator;"⟩
def dkwX2_inOrder_0 : List UInt8 := [187, 0, 63, 89, 42, 27, 183, 0, 65, 176]
abbrev dktX2_inOrder_0 : List UInt8 := dkwX2_inOrder_0 ++ []
theorem dksX2_inOrder_0 : cX2_inOrder.data.toList.drop 0 = dktX2_inOrder_0 := by decide +kernel
theorem dX2_inOrder_0 : decode cX2_inOrder 0 = .ok (.new 63, 3) := dk_187 0 63 (dk_at dksX2_inOrder_0 0 rfl rfl)
theorem dX2_inOrder_3 : decode cX2_inOrder 3 = .ok (.dup, 1) := dk_89 (dk_at dksX2_inOrder_0 3 rfl rfl)
theorem dX2_inOrder_4 : decode cX2_inOrder 4 = .ok (.aload_n 0, 1) := dk_42 (dk_at dksX2_inOrder_0 4 rfl rfl)
theorem dX2_inOrder_5 : decode cX2_inOrder 5 = .ok (.iload_n 1, 1) := dk_27 (dk_at dksX2_inOrder_0 5 rfl rfl)
theorem dX2_inOrder_6 : decode cX2_inOrder 6 = .ok (.invokespecial 65, 3) := dk_183 0 65 (dk_at dksX2_inOrder_0 6 rfl rfl)
theorem dX2_inOrder_9 : decode cX2_inOrder 9 = .ok (.areturn, 1) := dk_176 (dk_at dksX2_inOrder_0 9 rfl rfl)
abbrev cX2_copy : ByteArray := prog_11_method_2_code
def yX2_copy : MethodName := ⟨RX2, "copy", "()LCameraMoves$Plan;"⟩
def dkwX2_copy_5 : List UInt8 := [185, 0, 42, 1, 0, 192, 0, 61, 78, 43, 180, 0, 23, 45, 182, 0, 52, 87, 167, 255, 228, 43, 176]
abbrev dktX2_copy_5 : List UInt8 := dkwX2_copy_5 ++ []
def dkwX2_copy_4 : List UInt8 := [87, 167, 255, 225, 42, 180, 0, 23, 182, 0, 32, 77, 44, 185, 0, 36, 1, 0, 153, 0, 25, 44]
abbrev dktX2_copy_4 : List UInt8 := dkwX2_copy_4 ++ dktX2_copy_5
def dkwX2_copy_3 : List UInt8 := [153, 0, 28, 44, 185, 0, 42, 1, 0, 192, 0, 56, 78, 43, 180, 0, 20, 45, 182, 0, 58, 182, 0, 52]
abbrev dktX2_copy_3 : List UInt8 := dkwX2_copy_3 ++ dktX2_copy_4
def dkwX2_copy_2 : List UInt8 := [182, 0, 48, 182, 0, 52, 87, 167, 255, 225, 42, 180, 0, 20, 182, 0, 32, 77, 44, 185, 0, 36, 1, 0]
abbrev dktX2_copy_2 : List UInt8 := dkwX2_copy_2 ++ dktX2_copy_3
def dkwX2_copy_1 : List UInt8 := [185, 0, 36, 1, 0, 153, 0, 28, 44, 185, 0, 42, 1, 0, 192, 0, 46, 78, 43, 180, 0, 14, 45]
abbrev dktX2_copy_1 : List UInt8 := dkwX2_copy_1 ++ dktX2_copy_2
def dkwX2_copy_0 : List UInt8 := [187, 0, 15, 89, 42, 180, 0, 26, 183, 0, 29, 76, 42, 180, 0, 14, 182, 0, 32, 77, 44]
abbrev dktX2_copy_0 : List UInt8 := dkwX2_copy_0 ++ dktX2_copy_1
theorem dksX2_copy_0 : cX2_copy.data.toList.drop 0 = dktX2_copy_0 := by decide +kernel
theorem dksX2_copy_1 : cX2_copy.data.toList.drop 21 = dktX2_copy_1 := dk_seg dksX2_copy_0 21 rfl rfl
theorem dksX2_copy_2 : cX2_copy.data.toList.drop 44 = dktX2_copy_2 := dk_seg dksX2_copy_1 23 rfl rfl
theorem dksX2_copy_3 : cX2_copy.data.toList.drop 68 = dktX2_copy_3 := dk_seg dksX2_copy_2 24 rfl rfl
theorem dksX2_copy_4 : cX2_copy.data.toList.drop 92 = dktX2_copy_4 := dk_seg dksX2_copy_3 24 rfl rfl
theorem dksX2_copy_5 : cX2_copy.data.toList.drop 114 = dktX2_copy_5 := dk_seg dksX2_copy_4 22 rfl rfl
theorem dX2_copy_0 : decode cX2_copy 0 = .ok (.new 15, 3) := dk_187 0 15 (dk_at dksX2_copy_0 0 rfl rfl)
theorem dX2_copy_3 : decode cX2_copy 3 = .ok (.dup, 1) := dk_89 (dk_at dksX2_copy_0 3 rfl rfl)
theorem dX2_copy_4 : decode cX2_copy 4 = .ok (.aload_n 0, 1) := dk_42 (dk_at dksX2_copy_0 4 rfl rfl)
theorem dX2_copy_5 : decode cX2_copy 5 = .ok (.getfield 26, 3) := dk_180 0 26 (dk_at dksX2_copy_0 5 rfl rfl)
theorem dX2_copy_8 : decode cX2_copy 8 = .ok (.invokespecial 29, 3) := dk_183 0 29 (dk_at dksX2_copy_0 8 rfl rfl)
theorem dX2_copy_11 : decode cX2_copy 11 = .ok (.astore_n 1, 1) := dk_76 (dk_at dksX2_copy_0 11 rfl rfl)
theorem dX2_copy_12 : decode cX2_copy 12 = .ok (.aload_n 0, 1) := dk_42 (dk_at dksX2_copy_0 12 rfl rfl)
theorem dX2_copy_13 : decode cX2_copy 13 = .ok (.getfield 14, 3) := dk_180 0 14 (dk_at dksX2_copy_0 13 rfl rfl)
theorem dX2_copy_16 : decode cX2_copy 16 = .ok (.invokevirtual 32, 3) := dk_182 0 32 (dk_at dksX2_copy_0 16 rfl rfl)
theorem dX2_copy_19 : decode cX2_copy 19 = .ok (.astore_n 2, 1) := dk_77 (dk_at dksX2_copy_0 19 rfl rfl)
theorem dX2_copy_20 : decode cX2_copy 20 = .ok (.aload_n 2, 1) := dk_44 (dk_at dksX2_copy_0 20 rfl rfl)
theorem dX2_copy_21 : decode cX2_copy 21 = .ok (.invokeinterface 36 1, 5) := by decide +kernel
theorem dX2_copy_26 : decode cX2_copy 26 = .ok (.ifCond .eq 28, 3) := dk_153 0 28 (dk_at dksX2_copy_1 5 rfl rfl)
theorem dX2_copy_29 : decode cX2_copy 29 = .ok (.aload_n 2, 1) := dk_44 (dk_at dksX2_copy_1 8 rfl rfl)
theorem dX2_copy_30 : decode cX2_copy 30 = .ok (.invokeinterface 42 1, 5) := by decide +kernel
theorem dX2_copy_35 : decode cX2_copy 35 = .ok (.checkcast 46, 3) := dk_192 0 46 (dk_at dksX2_copy_1 14 rfl rfl)
theorem dX2_copy_38 : decode cX2_copy 38 = .ok (.astore_n 3, 1) := dk_78 (dk_at dksX2_copy_1 17 rfl rfl)
theorem dX2_copy_39 : decode cX2_copy 39 = .ok (.aload_n 1, 1) := dk_43 (dk_at dksX2_copy_1 18 rfl rfl)
theorem dX2_copy_40 : decode cX2_copy 40 = .ok (.getfield 14, 3) := dk_180 0 14 (dk_at dksX2_copy_1 19 rfl rfl)
theorem dX2_copy_43 : decode cX2_copy 43 = .ok (.aload_n 3, 1) := dk_45 (dk_at dksX2_copy_1 22 rfl rfl)
theorem dX2_copy_44 : decode cX2_copy 44 = .ok (.invokevirtual 48, 3) := dk_182 0 48 (dk_at dksX2_copy_2 0 rfl rfl)
theorem dX2_copy_47 : decode cX2_copy 47 = .ok (.invokevirtual 52, 3) := dk_182 0 52 (dk_at dksX2_copy_2 3 rfl rfl)
theorem dX2_copy_50 : decode cX2_copy 50 = .ok (.pop, 1) := dk_87 (dk_at dksX2_copy_2 6 rfl rfl)
theorem dX2_copy_51 : decode cX2_copy 51 = .ok (.goto (-31), 3) := dk_167 255 225 (dk_at dksX2_copy_2 7 rfl rfl)
theorem dX2_copy_54 : decode cX2_copy 54 = .ok (.aload_n 0, 1) := dk_42 (dk_at dksX2_copy_2 10 rfl rfl)
theorem dX2_copy_55 : decode cX2_copy 55 = .ok (.getfield 20, 3) := dk_180 0 20 (dk_at dksX2_copy_2 11 rfl rfl)
theorem dX2_copy_58 : decode cX2_copy 58 = .ok (.invokevirtual 32, 3) := dk_182 0 32 (dk_at dksX2_copy_2 14 rfl rfl)
theorem dX2_copy_61 : decode cX2_copy 61 = .ok (.astore_n 2, 1) := dk_77 (dk_at dksX2_copy_2 17 rfl rfl)
theorem dX2_copy_62 : decode cX2_copy 62 = .ok (.aload_n 2, 1) := dk_44 (dk_at dksX2_copy_2 18 rfl rfl)
theorem dX2_copy_63 : decode cX2_copy 63 = .ok (.invokeinterface 36 1, 5) := by decide +kernel
theorem dX2_copy_68 : decode cX2_copy 68 = .ok (.ifCond .eq 28, 3) := dk_153 0 28 (dk_at dksX2_copy_3 0 rfl rfl)
theorem dX2_copy_71 : decode cX2_copy 71 = .ok (.aload_n 2, 1) := dk_44 (dk_at dksX2_copy_3 3 rfl rfl)
theorem dX2_copy_72 : decode cX2_copy 72 = .ok (.invokeinterface 42 1, 5) := by decide +kernel
theorem dX2_copy_77 : decode cX2_copy 77 = .ok (.checkcast 56, 3) := dk_192 0 56 (dk_at dksX2_copy_3 9 rfl rfl)
theorem dX2_copy_80 : decode cX2_copy 80 = .ok (.astore_n 3, 1) := dk_78 (dk_at dksX2_copy_3 12 rfl rfl)
theorem dX2_copy_81 : decode cX2_copy 81 = .ok (.aload_n 1, 1) := dk_43 (dk_at dksX2_copy_3 13 rfl rfl)
theorem dX2_copy_82 : decode cX2_copy 82 = .ok (.getfield 20, 3) := dk_180 0 20 (dk_at dksX2_copy_3 14 rfl rfl)
theorem dX2_copy_85 : decode cX2_copy 85 = .ok (.aload_n 3, 1) := dk_45 (dk_at dksX2_copy_3 17 rfl rfl)
theorem dX2_copy_86 : decode cX2_copy 86 = .ok (.invokevirtual 58, 3) := dk_182 0 58 (dk_at dksX2_copy_3 18 rfl rfl)
theorem dX2_copy_89 : decode cX2_copy 89 = .ok (.invokevirtual 52, 3) := dk_182 0 52 (dk_at dksX2_copy_3 21 rfl rfl)
theorem dX2_copy_92 : decode cX2_copy 92 = .ok (.pop, 1) := dk_87 (dk_at dksX2_copy_4 0 rfl rfl)
theorem dX2_copy_93 : decode cX2_copy 93 = .ok (.goto (-31), 3) := dk_167 255 225 (dk_at dksX2_copy_4 1 rfl rfl)
theorem dX2_copy_96 : decode cX2_copy 96 = .ok (.aload_n 0, 1) := dk_42 (dk_at dksX2_copy_4 4 rfl rfl)
theorem dX2_copy_97 : decode cX2_copy 97 = .ok (.getfield 23, 3) := dk_180 0 23 (dk_at dksX2_copy_4 5 rfl rfl)
theorem dX2_copy_100 : decode cX2_copy 100 = .ok (.invokevirtual 32, 3) := dk_182 0 32 (dk_at dksX2_copy_4 8 rfl rfl)
theorem dX2_copy_103 : decode cX2_copy 103 = .ok (.astore_n 2, 1) := dk_77 (dk_at dksX2_copy_4 11 rfl rfl)
theorem dX2_copy_104 : decode cX2_copy 104 = .ok (.aload_n 2, 1) := dk_44 (dk_at dksX2_copy_4 12 rfl rfl)
theorem dX2_copy_105 : decode cX2_copy 105 = .ok (.invokeinterface 36 1, 5) := by decide +kernel
theorem dX2_copy_110 : decode cX2_copy 110 = .ok (.ifCond .eq 25, 3) := dk_153 0 25 (dk_at dksX2_copy_4 18 rfl rfl)
theorem dX2_copy_113 : decode cX2_copy 113 = .ok (.aload_n 2, 1) := dk_44 (dk_at dksX2_copy_4 21 rfl rfl)
theorem dX2_copy_114 : decode cX2_copy 114 = .ok (.invokeinterface 42 1, 5) := by decide +kernel
theorem dX2_copy_119 : decode cX2_copy 119 = .ok (.checkcast 61, 3) := dk_192 0 61 (dk_at dksX2_copy_5 5 rfl rfl)
theorem dX2_copy_122 : decode cX2_copy 122 = .ok (.astore_n 3, 1) := dk_78 (dk_at dksX2_copy_5 8 rfl rfl)
theorem dX2_copy_123 : decode cX2_copy 123 = .ok (.aload_n 1, 1) := dk_43 (dk_at dksX2_copy_5 9 rfl rfl)
theorem dX2_copy_124 : decode cX2_copy 124 = .ok (.getfield 23, 3) := dk_180 0 23 (dk_at dksX2_copy_5 10 rfl rfl)
theorem dX2_copy_127 : decode cX2_copy 127 = .ok (.aload_n 3, 1) := dk_45 (dk_at dksX2_copy_5 13 rfl rfl)
theorem dX2_copy_128 : decode cX2_copy 128 = .ok (.invokevirtual 52, 3) := dk_182 0 52 (dk_at dksX2_copy_5 14 rfl rfl)
theorem dX2_copy_131 : decode cX2_copy 131 = .ok (.pop, 1) := dk_87 (dk_at dksX2_copy_5 17 rfl rfl)
theorem dX2_copy_132 : decode cX2_copy 132 = .ok (.goto (-28), 3) := dk_167 255 228 (dk_at dksX2_copy_5 18 rfl rfl)
theorem dX2_copy_135 : decode cX2_copy 135 = .ok (.aload_n 1, 1) := dk_43 (dk_at dksX2_copy_5 21 rfl rfl)
theorem dX2_copy_136 : decode cX2_copy 136 = .ok (.areturn, 1) := dk_176 (dk_at dksX2_copy_5 22 rfl rfl)
theorem q109 : (Jvm.Cond.initialized "CameraMoves$Plan") ∈ lw_all := lw_g (lw_at lw_m1 2 rfl) rfl
theorem q161 : (Jvm.Cond.instantiable "CameraMoves$Plan" (4 : Nat)) ∈ lw_all := lw_g (lw_at lw_m1 54 rfl) rfl
theorem q513 : (Jvm.Cond.instanceMethod ({ cls := "CameraMoves$Plan", name := "<init>", desc := "(Ljava/util/ArrayList;)V" } : Jvm.MethodName)) ∈ lw_all := lw_g (lw_at lw_m2 166 rfl) rfl
theorem q514 : (Jvm.Cond.code ({ cls := "CameraMoves$Plan", name := "<init>", desc := "(Ljava/util/ArrayList;)V" } : Jvm.MethodName) prog_11_method_1_code (2 : Nat) (Option.none : Option Jvm.ClassFile.FieldType)) ∈ lw_all := lw_g (lw_at lw_m2 167 rfl) rfl
theorem q515 : (Jvm.Cond.methodLink "CameraMoves$Plan" (3 : Nat) ({ cls := "java/lang/Object", name := "<init>", desc := "()V" } : Jvm.MethodName)) ∈ lw_all := lw_g (lw_at lw_m2 168 rfl) rfl
theorem q516 : (Jvm.Cond.classLink "CameraMoves$Plan" (9 : Nat) "java/util/ArrayList") ∈ lw_all := lw_g (lw_at lw_m2 169 rfl) rfl
theorem q517 : (Jvm.Cond.methodLink "CameraMoves$Plan" (11 : Nat) ({ cls := "java/util/ArrayList", name := "<init>", desc := "(I)V" } : Jvm.MethodName)) ∈ lw_all := lw_g (lw_at lw_m2 170 rfl) rfl
theorem q518 : (Jvm.Cond.fieldLink "CameraMoves$Plan" (14 : Nat) "CameraMoves$Plan" "axes" "Ljava/util/ArrayList;") ∈ lw_all := lw_g (lw_at lw_m2 171 rfl) rfl
theorem q522 : (Jvm.Cond.fieldLink "CameraMoves$Plan" (20 : Nat) "CameraMoves$Plan" "cues" "Ljava/util/ArrayList;") ∈ lw_all := lw_g (lw_at lw_m2 175 rfl) rfl
theorem q527 : (Jvm.Cond.fieldLink "CameraMoves$Plan" (23 : Nat) "CameraMoves$Plan" "walls" "Ljava/util/ArrayList;") ∈ lw_all := lw_g (lw_at lw_m2 180 rfl) rfl
theorem q531 : (Jvm.Cond.fieldLink "CameraMoves$Plan" (26 : Nat) "CameraMoves$Plan" "passes" "Ljava/util/ArrayList;") ∈ lw_all := lw_g (lw_at lw_m2 184 rfl) rfl
theorem q534 : (Jvm.Cond.laysFinal "CameraMoves$Plan" "CameraMoves$Plan" "axes" "Ljava/util/ArrayList;") ∈ lw_all := lw_g (lw_at lw_m2 187 rfl) rfl
theorem q535 : (Jvm.Cond.soleField "CameraMoves$Plan" "axes") ∈ lw_all := lw_g (lw_at lw_m2 188 rfl) rfl
theorem q536 : (Jvm.Cond.laysFinal "CameraMoves$Plan" "CameraMoves$Plan" "cues" "Ljava/util/ArrayList;") ∈ lw_all := lw_g (lw_at lw_m2 189 rfl) rfl
theorem q537 : (Jvm.Cond.soleField "CameraMoves$Plan" "cues") ∈ lw_all := lw_g (lw_at lw_m2 190 rfl) rfl
theorem q538 : (Jvm.Cond.laysFinal "CameraMoves$Plan" "CameraMoves$Plan" "walls" "Ljava/util/ArrayList;") ∈ lw_all := lw_g (lw_at lw_m2 191 rfl) rfl
theorem q539 : (Jvm.Cond.soleField "CameraMoves$Plan" "walls") ∈ lw_all := lw_g (lw_at lw_m2 192 rfl) rfl
theorem q540 : (Jvm.Cond.laysFinal "CameraMoves$Plan" "CameraMoves$Plan" "passes" "Ljava/util/ArrayList;") ∈ lw_all := lw_g (lw_at lw_m2 193 rfl) rfl
theorem q541 : (Jvm.Cond.soleField "CameraMoves$Plan" "passes") ∈ lw_all := lw_g (lw_at lw_m2 194 rfl) rfl
theorem q542 : (Jvm.Cond.superclass "CameraMoves$Plan" "java/lang/Object") ∈ lw_all := lw_g (lw_at lw_m2 195 rfl) rfl
theorem q658 : (Jvm.Cond.instanceMethod ({ cls := "CameraMoves$Plan", name := "inOrder", desc := "(I)Ljava/util/Iterator;" } : Jvm.MethodName)) ∈ lw_all := lw_g (lw_at lw_m3 71 rfl) rfl
theorem q659 : (Jvm.Cond.selects "CameraMoves$Plan" ({ cls := "CameraMoves$Plan", name := "inOrder", desc := "(I)Ljava/util/Iterator;" } : Jvm.MethodName) ({ cls := "CameraMoves$Plan", name := "inOrder", desc := "(I)Ljava/util/Iterator;" } : Jvm.MethodName)) ∈ lw_all := lw_g (lw_at lw_m3 72 rfl) rfl
theorem q660 : (Jvm.Cond.code ({ cls := "CameraMoves$Plan", name := "inOrder", desc := "(I)Ljava/util/Iterator;" } : Jvm.MethodName) prog_11_method_3_code (2 : Nat) (Option.some (Jvm.ClassFile.FieldType.object "java/util/Iterator"))) ∈ lw_all := lw_g (lw_at lw_m3 73 rfl) rfl
theorem q661 : (Jvm.Cond.classLink "CameraMoves$Plan" (63 : Nat) "CameraMoves$Plan$1") ∈ lw_all := lw_g (lw_at lw_m3 74 rfl) rfl
theorem q663 : (Jvm.Cond.methodLink "CameraMoves$Plan" (65 : Nat) ({ cls := "CameraMoves$Plan$1", name := "<init>", desc := "(LCameraMoves$Plan;I)V" } : Jvm.MethodName)) ∈ lw_all := lw_g (lw_at lw_m3 76 rfl) rfl
theorem q1212 : (Jvm.Cond.selects "CameraMoves$Plan" ({ cls := "java/lang/Object", name := "getClass", desc := "()Ljava/lang/Class;" } : Jvm.MethodName) ({ cls := "java/lang/Object", name := "getClass", desc := "()Ljava/lang/Class;" } : Jvm.MethodName)) ∈ lw_all := lw_g (lw_at lw_m5 145 rfl) rfl
theorem q1690 : (Jvm.Cond.instanceMethod ({ cls := "CameraMoves$Plan", name := "copy", desc := "()LCameraMoves$Plan;" } : Jvm.MethodName)) ∈ lw_all := lw_g (lw_at lw_m7 143 rfl) rfl
theorem q1691 : (Jvm.Cond.selects "CameraMoves$Plan" ({ cls := "CameraMoves$Plan", name := "copy", desc := "()LCameraMoves$Plan;" } : Jvm.MethodName) ({ cls := "CameraMoves$Plan", name := "copy", desc := "()LCameraMoves$Plan;" } : Jvm.MethodName)) ∈ lw_all := lw_g (lw_at lw_m7 144 rfl) rfl
theorem q1692 : (Jvm.Cond.code ({ cls := "CameraMoves$Plan", name := "copy", desc := "()LCameraMoves$Plan;" } : Jvm.MethodName) prog_11_method_2_code (4 : Nat) (Option.some (Jvm.ClassFile.FieldType.object "CameraMoves$Plan"))) ∈ lw_all := lw_g (lw_at lw_m7 145 rfl) rfl
theorem q1693 : (Jvm.Cond.classLink "CameraMoves$Plan" (15 : Nat) "CameraMoves$Plan") ∈ lw_all := lw_g (lw_at lw_m7 146 rfl) rfl
theorem q1694 : (Jvm.Cond.methodLink "CameraMoves$Plan" (29 : Nat) ({ cls := "CameraMoves$Plan", name := "<init>", desc := "(Ljava/util/ArrayList;)V" } : Jvm.MethodName)) ∈ lw_all := lw_g (lw_at lw_m7 147 rfl) rfl
theorem q1695 : (Jvm.Cond.methodLink "CameraMoves$Plan" (32 : Nat) ({ cls := "java/util/ArrayList", name := "iterator", desc := "()Ljava/util/Iterator;" } : Jvm.MethodName)) ∈ lw_all := lw_g (lw_at lw_m7 148 rfl) rfl
theorem q1718 : (Jvm.Cond.interfaceEntry "CameraMoves$Plan" (36 : Nat)) ∈ lw_tbl := lw_at lw_m7 171 rfl
theorem q1719 : (Jvm.Cond.methodLink "CameraMoves$Plan" (36 : Nat) ({ cls := "java/util/Iterator", name := "hasNext", desc := "()Z" } : Jvm.MethodName)) ∈ lw_all := lw_g (lw_at lw_m7 172 rfl) rfl
theorem q1720 : (Jvm.Cond.interfaceEntry "CameraMoves$Plan" (42 : Nat)) ∈ lw_tbl := lw_at lw_m7 173 rfl
theorem q1721 : (Jvm.Cond.methodLink "CameraMoves$Plan" (42 : Nat) ({ cls := "java/util/Iterator", name := "next", desc := "()Ljava/lang/Object;" } : Jvm.MethodName)) ∈ lw_all := lw_g (lw_at lw_m7 174 rfl) rfl
theorem q1722 : (Jvm.Cond.classLink "CameraMoves$Plan" (46 : Nat) "CameraMoves$Axis") ∈ lw_all := lw_g (lw_at lw_m7 175 rfl) rfl
theorem q1723 : (Jvm.Cond.methodLink "CameraMoves$Plan" (48 : Nat) ({ cls := "CameraMoves$Axis", name := "copy", desc := "()LCameraMoves$Axis;" } : Jvm.MethodName)) ∈ lw_all := lw_g (lw_at lw_m7 176 rfl) rfl
theorem q1729 : (Jvm.Cond.methodLink "CameraMoves$Plan" (52 : Nat) ({ cls := "java/util/ArrayList", name := "add", desc := "(Ljava/lang/Object;)Z" } : Jvm.MethodName)) ∈ lw_all := lw_g (lw_at lw_m7 182 rfl) rfl
theorem q1730 : (Jvm.Cond.classLink "CameraMoves$Plan" (56 : Nat) "CameraMoves$Cue") ∈ lw_all := lw_g (lw_at lw_m7 183 rfl) rfl
theorem q1731 : (Jvm.Cond.methodLink "CameraMoves$Plan" (58 : Nat) ({ cls := "CameraMoves$Cue", name := "copy", desc := "()LCameraMoves$Cue;" } : Jvm.MethodName)) ∈ lw_all := lw_g (lw_at lw_m7 184 rfl) rfl
theorem q1738 : (Jvm.Cond.classLink "CameraMoves$Plan" (61 : Nat) "CameraMoves$Wall") ∈ lw_all := lw_g (lw_at lw_m7 191 rfl) rfl
theorem q2671 : (Jvm.Cond.castable "CameraMoves$Plan" "java/lang/Object") ∈ lw_tbl := lw_at lw_m11 164 rfl
theorem in_X2 : ∀ w ∈ wsX20, w ∈ lw_all := lw_in wsX20 [534, 536, 538, 540] (by decide +kernel) (by decide +kernel)

/-! CameraMoves$Film -/
set_option maxRecDepth 100000
def RX3 : String := "CameraMoves$Film"
def TX3 : u_T := fun k => match k with
  | 0 => ("CameraMoves$Film", "plan", "LCameraMoves$Plan;", false)
  | 1 => ("CameraMoves$Film", "status", "[I", true)
  | 2 => ("CameraMoves$Film", "distance", "[I", true)
  | _ => ("CameraMoves$Film", "at", "[[I", true)
def tyX3 : Nat → FieldType := fun k => match k with
  | 0 => .object "CameraMoves$Plan"
  | 1 => .array .int
  | 2 => .array .int
  | _ => .array (.array .int)
abbrev wsX30 : List Cond := u_ws RX3 TX3 4
theorem nmX3 : ∀ a, a < 4 → ∀ b, b < 4 → a ≠ b → (TX3 a).2.1 ≠ (TX3 b).2.1 := by decide +kernel
theorem tyX3_ok : ∀ k, k < 4 → parseFieldDescriptor (TX3 k).2.2.1 = some (tyX3 k) := by decide +kernel
abbrev cX3_init : ByteArray := prog_6_method_1_code
def yX3_init : MethodName := ⟨RX3, "<init>", "()V"⟩
def dkwX3_init_2 : List UInt8 := [181, 0, 34, 177]
abbrev dktX3_init_2 : List UInt8 := dkwX3_init_2 ++ []
def dkwX3_init_1 : List UInt8 := [16, 80, 188, 10, 181, 0, 25, 42, 16, 80, 188, 10, 181, 0, 29, 42, 7, 17, 3, 232, 197, 0, 32, 2]
abbrev dktX3_init_1 : List UInt8 := dkwX3_init_1 ++ dktX3_init_2
def dkwX3_init_0 : List UInt8 := [42, 183, 0, 3, 42, 187, 0, 9, 89, 187, 0, 11, 89, 7, 183, 0, 13, 183, 0, 16, 181, 0, 19, 42]
abbrev dktX3_init_0 : List UInt8 := dkwX3_init_0 ++ dktX3_init_1
theorem dksX3_init_0 : cX3_init.data.toList.drop 0 = dktX3_init_0 := by decide +kernel
theorem dksX3_init_1 : cX3_init.data.toList.drop 24 = dktX3_init_1 := dk_seg dksX3_init_0 24 rfl rfl
theorem dksX3_init_2 : cX3_init.data.toList.drop 48 = dktX3_init_2 := dk_seg dksX3_init_1 24 rfl rfl
theorem dX3_init_0 : decode cX3_init 0 = .ok (.aload_n 0, 1) := dk_42 (dk_at dksX3_init_0 0 rfl rfl)
theorem dX3_init_1 : decode cX3_init 1 = .ok (.invokespecial 3, 3) := dk_183 0 3 (dk_at dksX3_init_0 1 rfl rfl)
theorem dX3_init_4 : decode cX3_init 4 = .ok (.aload_n 0, 1) := dk_42 (dk_at dksX3_init_0 4 rfl rfl)
theorem dX3_init_5 : decode cX3_init 5 = .ok (.new 9, 3) := dk_187 0 9 (dk_at dksX3_init_0 5 rfl rfl)
theorem dX3_init_8 : decode cX3_init 8 = .ok (.dup, 1) := dk_89 (dk_at dksX3_init_0 8 rfl rfl)
theorem dX3_init_9 : decode cX3_init 9 = .ok (.new 11, 3) := dk_187 0 11 (dk_at dksX3_init_0 9 rfl rfl)
theorem dX3_init_12 : decode cX3_init 12 = .ok (.dup, 1) := dk_89 (dk_at dksX3_init_0 12 rfl rfl)
theorem dX3_init_13 : decode cX3_init 13 = .ok (.iconst 4, 1) := dk_7 (dk_at dksX3_init_0 13 rfl rfl)
theorem dX3_init_14 : decode cX3_init 14 = .ok (.invokespecial 13, 3) := dk_183 0 13 (dk_at dksX3_init_0 14 rfl rfl)
theorem dX3_init_17 : decode cX3_init 17 = .ok (.invokespecial 16, 3) := dk_183 0 16 (dk_at dksX3_init_0 17 rfl rfl)
theorem dX3_init_20 : decode cX3_init 20 = .ok (.putfield 19, 3) := dk_181 0 19 (dk_at dksX3_init_0 20 rfl rfl)
theorem dX3_init_23 : decode cX3_init 23 = .ok (.aload_n 0, 1) := dk_42 (dk_at dksX3_init_0 23 rfl rfl)
theorem dX3_init_24 : decode cX3_init 24 = .ok (.bipush 80, 2) := dk_16 80 (dk_at dksX3_init_1 0 rfl rfl)
theorem dX3_init_26 : decode cX3_init 26 = .ok (.newarray .int, 2) := dk_188_10 (dk_at dksX3_init_1 2 rfl rfl)
theorem dX3_init_28 : decode cX3_init 28 = .ok (.putfield 25, 3) := dk_181 0 25 (dk_at dksX3_init_1 4 rfl rfl)
theorem dX3_init_31 : decode cX3_init 31 = .ok (.aload_n 0, 1) := dk_42 (dk_at dksX3_init_1 7 rfl rfl)
theorem dX3_init_32 : decode cX3_init 32 = .ok (.bipush 80, 2) := dk_16 80 (dk_at dksX3_init_1 8 rfl rfl)
theorem dX3_init_34 : decode cX3_init 34 = .ok (.newarray .int, 2) := dk_188_10 (dk_at dksX3_init_1 10 rfl rfl)
theorem dX3_init_36 : decode cX3_init 36 = .ok (.putfield 29, 3) := dk_181 0 29 (dk_at dksX3_init_1 12 rfl rfl)
theorem dX3_init_39 : decode cX3_init 39 = .ok (.aload_n 0, 1) := dk_42 (dk_at dksX3_init_1 15 rfl rfl)
theorem dX3_init_40 : decode cX3_init 40 = .ok (.iconst 4, 1) := dk_7 (dk_at dksX3_init_1 16 rfl rfl)
theorem dX3_init_41 : decode cX3_init 41 = .ok (.sipush 1000, 3) := dk_17 3 232 (dk_at dksX3_init_1 17 rfl rfl)
theorem dX3_init_44 : decode cX3_init 44 = .ok (.multianewarray 32 2, 4) := by decide +kernel
theorem dX3_init_48 : decode cX3_init 48 = .ok (.putfield 34, 3) := dk_181 0 34 (dk_at dksX3_init_2 0 rfl rfl)
theorem dX3_init_51 : decode cX3_init 51 = .ok (.return_, 1) := dk_177 (dk_at dksX3_init_2 3 rfl rfl)
abbrev cX3_layMoves : ByteArray := prog_6_method_2_code
def yX3_layMoves : MethodName := ⟨RX3, "layMoves", "(LCameraMoves$Plan;)LCameraMoves$Film;"⟩
def dkwX3_layMoves_1 : List UInt8 := [182, 0, 45, 132, 2, 1, 167, 255, 234, 42, 176]
abbrev dktX3_layMoves_1 : List UInt8 := dkwX3_layMoves_1 ++ []
def dkwX3_layMoves_0 : List UInt8 := [42, 43, 181, 0, 19, 3, 61, 28, 42, 180, 0, 19, 180, 0, 37, 182, 0, 41, 162, 0, 14, 42, 28]
abbrev dktX3_layMoves_0 : List UInt8 := dkwX3_layMoves_0 ++ dktX3_layMoves_1
theorem dksX3_layMoves_0 : cX3_layMoves.data.toList.drop 0 = dktX3_layMoves_0 := by decide +kernel
theorem dksX3_layMoves_1 : cX3_layMoves.data.toList.drop 23 = dktX3_layMoves_1 := dk_seg dksX3_layMoves_0 23 rfl rfl
theorem dX3_layMoves_0 : decode cX3_layMoves 0 = .ok (.aload_n 0, 1) := dk_42 (dk_at dksX3_layMoves_0 0 rfl rfl)
theorem dX3_layMoves_1 : decode cX3_layMoves 1 = .ok (.aload_n 1, 1) := dk_43 (dk_at dksX3_layMoves_0 1 rfl rfl)
theorem dX3_layMoves_2 : decode cX3_layMoves 2 = .ok (.putfield 19, 3) := dk_181 0 19 (dk_at dksX3_layMoves_0 2 rfl rfl)
theorem dX3_layMoves_5 : decode cX3_layMoves 5 = .ok (.iconst 0, 1) := dk_3 (dk_at dksX3_layMoves_0 5 rfl rfl)
theorem dX3_layMoves_6 : decode cX3_layMoves 6 = .ok (.istore_n 2, 1) := dk_61 (dk_at dksX3_layMoves_0 6 rfl rfl)
theorem dX3_layMoves_7 : decode cX3_layMoves 7 = .ok (.iload_n 2, 1) := dk_28 (dk_at dksX3_layMoves_0 7 rfl rfl)
theorem dX3_layMoves_8 : decode cX3_layMoves 8 = .ok (.aload_n 0, 1) := dk_42 (dk_at dksX3_layMoves_0 8 rfl rfl)
theorem dX3_layMoves_9 : decode cX3_layMoves 9 = .ok (.getfield 19, 3) := dk_180 0 19 (dk_at dksX3_layMoves_0 9 rfl rfl)
theorem dX3_layMoves_12 : decode cX3_layMoves 12 = .ok (.getfield 37, 3) := dk_180 0 37 (dk_at dksX3_layMoves_0 12 rfl rfl)
theorem dX3_layMoves_15 : decode cX3_layMoves 15 = .ok (.invokevirtual 41, 3) := dk_182 0 41 (dk_at dksX3_layMoves_0 15 rfl rfl)
theorem dX3_layMoves_18 : decode cX3_layMoves 18 = .ok (.if_icmp .ge 14, 3) := dk_162 0 14 (dk_at dksX3_layMoves_0 18 rfl rfl)
theorem dX3_layMoves_21 : decode cX3_layMoves 21 = .ok (.aload_n 0, 1) := dk_42 (dk_at dksX3_layMoves_0 21 rfl rfl)
theorem dX3_layMoves_22 : decode cX3_layMoves 22 = .ok (.iload_n 2, 1) := dk_28 (dk_at dksX3_layMoves_0 22 rfl rfl)
theorem dX3_layMoves_23 : decode cX3_layMoves 23 = .ok (.invokevirtual 45, 3) := dk_182 0 45 (dk_at dksX3_layMoves_1 0 rfl rfl)
theorem dX3_layMoves_26 : decode cX3_layMoves 26 = .ok (.iinc 2 1, 3) := dk_132 2 1 (dk_at dksX3_layMoves_1 3 rfl rfl)
theorem dX3_layMoves_29 : decode cX3_layMoves 29 = .ok (.goto (-22), 3) := dk_167 255 234 (dk_at dksX3_layMoves_1 6 rfl rfl)
theorem dX3_layMoves_32 : decode cX3_layMoves 32 = .ok (.aload_n 0, 1) := dk_42 (dk_at dksX3_layMoves_1 9 rfl rfl)
theorem dX3_layMoves_33 : decode cX3_layMoves 33 = .ok (.areturn, 1) := dk_176 (dk_at dksX3_layMoves_1 10 rfl rfl)
abbrev cX3_layMoves_2 : ByteArray := prog_6_method_3_code
def yX3_layMoves_2 : MethodName := ⟨RX3, "layMoves", "(I)V"⟩
def dkwX3_layMoves_2_8 : List UInt8 := [25, 6, 180, 0, 97, 25, 6, 180, 0, 85, 96, 62, 167, 255, 85, 177]
abbrev dktX3_layMoves_2_8 : List UInt8 := dkwX3_layMoves_2_8 ++ []
def dkwX3_layMoves_2_7 : List UInt8 := [79, 25, 6, 180, 0, 97, 29, 161, 0, 28, 21, 8, 154, 0, 23, 25, 6, 180, 0, 82, 27, 46, 61]
abbrev dktX3_layMoves_2_7 : List UInt8 := dkwX3_layMoves_2_7 ++ dktX3_layMoves_2_8
def dkwX3_layMoves_2_6 : List UInt8 := [96, 25, 6, 180, 0, 97, 29, 162, 0, 7, 4, 167, 0, 13, 21, 8, 153, 0, 7, 5, 167, 0, 4, 3]
abbrev dktX3_layMoves_2_6 : List UInt8 := dkwX3_layMoves_2_6 ++ dktX3_layMoves_2_7
def dkwX3_layMoves_2_5 : List UInt8 := [54, 8, 42, 180, 0, 29, 7, 21, 5, 104, 27, 96, 21, 7, 79, 42, 180, 0, 25, 7, 21, 5, 104, 27]
abbrev dktX3_layMoves_2_5 : List UInt8 := dkwX3_layMoves_2_5 ++ dktX3_layMoves_2_6
def dkwX3_layMoves_2_4 : List UInt8 := [192, 0, 52, 25, 6, 180, 0, 85, 182, 0, 88, 21, 7, 184, 0, 92, 162, 0, 7, 4, 167, 0, 4, 3]
abbrev dktX3_layMoves_2_4 : List UInt8 := dkwX3_layMoves_2_4 ++ dktX3_layMoves_2_5
def dkwX3_layMoves_2_3 : List UInt8 := [58, 6, 25, 6, 180, 0, 82, 27, 46, 28, 100, 54, 7, 42, 180, 0, 19, 180, 0, 37, 27, 182, 0, 48]
abbrev dktX3_layMoves_2_3 : List UInt8 := dkwX3_layMoves_2_3 ++ dktX3_layMoves_2_4
def dkwX3_layMoves_2_2 : List UInt8 := [192, 0, 72, 182, 0, 74, 54, 5, 42, 180, 0, 19, 180, 0, 77, 21, 5, 182, 0, 48, 192, 0, 80]
abbrev dktX3_layMoves_2_2 : List UInt8 := dkwX3_layMoves_2_2 ++ dktX3_layMoves_2_3
def dkwX3_layMoves_2_1 : List UInt8 := [27, 182, 0, 58, 58, 4, 25, 4, 185, 0, 62, 1, 0, 153, 0, 167, 25, 4, 185, 0, 68, 1, 0]
abbrev dktX3_layMoves_2_1 : List UInt8 := dkwX3_layMoves_2_1 ++ dktX3_layMoves_2_2
def dkwX3_layMoves_2_0 : List UInt8 := [42, 180, 0, 19, 180, 0, 37, 27, 182, 0, 48, 192, 0, 52, 180, 0, 54, 61, 3, 62, 42, 180, 0, 19]
abbrev dktX3_layMoves_2_0 : List UInt8 := dkwX3_layMoves_2_0 ++ dktX3_layMoves_2_1
theorem dksX3_layMoves_2_0 : cX3_layMoves_2.data.toList.drop 0 = dktX3_layMoves_2_0 := by decide +kernel
theorem dksX3_layMoves_2_1 : cX3_layMoves_2.data.toList.drop 24 = dktX3_layMoves_2_1 := dk_seg dksX3_layMoves_2_0 24 rfl rfl
theorem dksX3_layMoves_2_2 : cX3_layMoves_2.data.toList.drop 47 = dktX3_layMoves_2_2 := dk_seg dksX3_layMoves_2_1 23 rfl rfl
theorem dksX3_layMoves_2_3 : cX3_layMoves_2.data.toList.drop 70 = dktX3_layMoves_2_3 := dk_seg dksX3_layMoves_2_2 23 rfl rfl
theorem dksX3_layMoves_2_4 : cX3_layMoves_2.data.toList.drop 94 = dktX3_layMoves_2_4 := dk_seg dksX3_layMoves_2_3 24 rfl rfl
theorem dksX3_layMoves_2_5 : cX3_layMoves_2.data.toList.drop 118 = dktX3_layMoves_2_5 := dk_seg dksX3_layMoves_2_4 24 rfl rfl
theorem dksX3_layMoves_2_6 : cX3_layMoves_2.data.toList.drop 142 = dktX3_layMoves_2_6 := dk_seg dksX3_layMoves_2_5 24 rfl rfl
theorem dksX3_layMoves_2_7 : cX3_layMoves_2.data.toList.drop 166 = dktX3_layMoves_2_7 := dk_seg dksX3_layMoves_2_6 24 rfl rfl
theorem dksX3_layMoves_2_8 : cX3_layMoves_2.data.toList.drop 189 = dktX3_layMoves_2_8 := dk_seg dksX3_layMoves_2_7 23 rfl rfl
theorem dX3_layMoves_2_0 : decode cX3_layMoves_2 0 = .ok (.aload_n 0, 1) := dk_42 (dk_at dksX3_layMoves_2_0 0 rfl rfl)
theorem dX3_layMoves_2_1 : decode cX3_layMoves_2 1 = .ok (.getfield 19, 3) := dk_180 0 19 (dk_at dksX3_layMoves_2_0 1 rfl rfl)
theorem dX3_layMoves_2_4 : decode cX3_layMoves_2 4 = .ok (.getfield 37, 3) := dk_180 0 37 (dk_at dksX3_layMoves_2_0 4 rfl rfl)
theorem dX3_layMoves_2_7 : decode cX3_layMoves_2 7 = .ok (.iload_n 1, 1) := dk_27 (dk_at dksX3_layMoves_2_0 7 rfl rfl)
theorem dX3_layMoves_2_8 : decode cX3_layMoves_2 8 = .ok (.invokevirtual 48, 3) := dk_182 0 48 (dk_at dksX3_layMoves_2_0 8 rfl rfl)
theorem dX3_layMoves_2_11 : decode cX3_layMoves_2 11 = .ok (.checkcast 52, 3) := dk_192 0 52 (dk_at dksX3_layMoves_2_0 11 rfl rfl)
theorem dX3_layMoves_2_14 : decode cX3_layMoves_2 14 = .ok (.getfield 54, 3) := dk_180 0 54 (dk_at dksX3_layMoves_2_0 14 rfl rfl)
theorem dX3_layMoves_2_17 : decode cX3_layMoves_2 17 = .ok (.istore_n 2, 1) := dk_61 (dk_at dksX3_layMoves_2_0 17 rfl rfl)
theorem dX3_layMoves_2_18 : decode cX3_layMoves_2 18 = .ok (.iconst 0, 1) := dk_3 (dk_at dksX3_layMoves_2_0 18 rfl rfl)
theorem dX3_layMoves_2_19 : decode cX3_layMoves_2 19 = .ok (.istore_n 3, 1) := dk_62 (dk_at dksX3_layMoves_2_0 19 rfl rfl)
theorem dX3_layMoves_2_20 : decode cX3_layMoves_2 20 = .ok (.aload_n 0, 1) := dk_42 (dk_at dksX3_layMoves_2_0 20 rfl rfl)
theorem dX3_layMoves_2_21 : decode cX3_layMoves_2 21 = .ok (.getfield 19, 3) := dk_180 0 19 (dk_at dksX3_layMoves_2_0 21 rfl rfl)
theorem dX3_layMoves_2_24 : decode cX3_layMoves_2 24 = .ok (.iload_n 1, 1) := dk_27 (dk_at dksX3_layMoves_2_1 0 rfl rfl)
theorem dX3_layMoves_2_25 : decode cX3_layMoves_2 25 = .ok (.invokevirtual 58, 3) := dk_182 0 58 (dk_at dksX3_layMoves_2_1 1 rfl rfl)
theorem dX3_layMoves_2_28 : decode cX3_layMoves_2 28 = .ok (.astore 4, 2) := dk_58 4 (dk_at dksX3_layMoves_2_1 4 rfl rfl)
theorem dX3_layMoves_2_30 : decode cX3_layMoves_2 30 = .ok (.aload 4, 2) := dk_25 4 (dk_at dksX3_layMoves_2_1 6 rfl rfl)
theorem dX3_layMoves_2_32 : decode cX3_layMoves_2 32 = .ok (.invokeinterface 62 1, 5) := by decide +kernel
theorem dX3_layMoves_2_37 : decode cX3_layMoves_2 37 = .ok (.ifCond .eq 167, 3) := dk_153 0 167 (dk_at dksX3_layMoves_2_1 13 rfl rfl)
theorem dX3_layMoves_2_40 : decode cX3_layMoves_2 40 = .ok (.aload 4, 2) := dk_25 4 (dk_at dksX3_layMoves_2_1 16 rfl rfl)
theorem dX3_layMoves_2_42 : decode cX3_layMoves_2 42 = .ok (.invokeinterface 68 1, 5) := by decide +kernel
theorem dX3_layMoves_2_47 : decode cX3_layMoves_2 47 = .ok (.checkcast 72, 3) := dk_192 0 72 (dk_at dksX3_layMoves_2_2 0 rfl rfl)
theorem dX3_layMoves_2_50 : decode cX3_layMoves_2 50 = .ok (.invokevirtual 74, 3) := dk_182 0 74 (dk_at dksX3_layMoves_2_2 3 rfl rfl)
theorem dX3_layMoves_2_53 : decode cX3_layMoves_2 53 = .ok (.istore 5, 2) := dk_54 5 (dk_at dksX3_layMoves_2_2 6 rfl rfl)
theorem dX3_layMoves_2_55 : decode cX3_layMoves_2 55 = .ok (.aload_n 0, 1) := dk_42 (dk_at dksX3_layMoves_2_2 8 rfl rfl)
theorem dX3_layMoves_2_56 : decode cX3_layMoves_2 56 = .ok (.getfield 19, 3) := dk_180 0 19 (dk_at dksX3_layMoves_2_2 9 rfl rfl)
theorem dX3_layMoves_2_59 : decode cX3_layMoves_2 59 = .ok (.getfield 77, 3) := dk_180 0 77 (dk_at dksX3_layMoves_2_2 12 rfl rfl)
theorem dX3_layMoves_2_62 : decode cX3_layMoves_2 62 = .ok (.iload 5, 2) := dk_21 5 (dk_at dksX3_layMoves_2_2 15 rfl rfl)
theorem dX3_layMoves_2_64 : decode cX3_layMoves_2 64 = .ok (.invokevirtual 48, 3) := dk_182 0 48 (dk_at dksX3_layMoves_2_2 17 rfl rfl)
theorem dX3_layMoves_2_67 : decode cX3_layMoves_2 67 = .ok (.checkcast 80, 3) := dk_192 0 80 (dk_at dksX3_layMoves_2_2 20 rfl rfl)
theorem dX3_layMoves_2_70 : decode cX3_layMoves_2 70 = .ok (.astore 6, 2) := dk_58 6 (dk_at dksX3_layMoves_2_3 0 rfl rfl)
theorem dX3_layMoves_2_72 : decode cX3_layMoves_2 72 = .ok (.aload 6, 2) := dk_25 6 (dk_at dksX3_layMoves_2_3 2 rfl rfl)
theorem dX3_layMoves_2_74 : decode cX3_layMoves_2 74 = .ok (.getfield 82, 3) := dk_180 0 82 (dk_at dksX3_layMoves_2_3 4 rfl rfl)
theorem dX3_layMoves_2_77 : decode cX3_layMoves_2 77 = .ok (.iload_n 1, 1) := dk_27 (dk_at dksX3_layMoves_2_3 7 rfl rfl)
theorem dX3_layMoves_2_78 : decode cX3_layMoves_2 78 = .ok (.iaload, 1) := dk_46 (dk_at dksX3_layMoves_2_3 8 rfl rfl)
theorem dX3_layMoves_2_79 : decode cX3_layMoves_2 79 = .ok (.iload_n 2, 1) := dk_28 (dk_at dksX3_layMoves_2_3 9 rfl rfl)
theorem dX3_layMoves_2_80 : decode cX3_layMoves_2 80 = .ok (.isub, 1) := dk_100 (dk_at dksX3_layMoves_2_3 10 rfl rfl)
theorem dX3_layMoves_2_81 : decode cX3_layMoves_2 81 = .ok (.istore 7, 2) := dk_54 7 (dk_at dksX3_layMoves_2_3 11 rfl rfl)
theorem dX3_layMoves_2_83 : decode cX3_layMoves_2 83 = .ok (.aload_n 0, 1) := dk_42 (dk_at dksX3_layMoves_2_3 13 rfl rfl)
theorem dX3_layMoves_2_84 : decode cX3_layMoves_2 84 = .ok (.getfield 19, 3) := dk_180 0 19 (dk_at dksX3_layMoves_2_3 14 rfl rfl)
theorem dX3_layMoves_2_87 : decode cX3_layMoves_2 87 = .ok (.getfield 37, 3) := dk_180 0 37 (dk_at dksX3_layMoves_2_3 17 rfl rfl)
theorem dX3_layMoves_2_90 : decode cX3_layMoves_2 90 = .ok (.iload_n 1, 1) := dk_27 (dk_at dksX3_layMoves_2_3 20 rfl rfl)
theorem dX3_layMoves_2_91 : decode cX3_layMoves_2 91 = .ok (.invokevirtual 48, 3) := dk_182 0 48 (dk_at dksX3_layMoves_2_3 21 rfl rfl)
theorem dX3_layMoves_2_94 : decode cX3_layMoves_2 94 = .ok (.checkcast 52, 3) := dk_192 0 52 (dk_at dksX3_layMoves_2_4 0 rfl rfl)
theorem dX3_layMoves_2_97 : decode cX3_layMoves_2 97 = .ok (.aload 6, 2) := dk_25 6 (dk_at dksX3_layMoves_2_4 3 rfl rfl)
theorem dX3_layMoves_2_99 : decode cX3_layMoves_2 99 = .ok (.getfield 85, 3) := dk_180 0 85 (dk_at dksX3_layMoves_2_4 5 rfl rfl)
theorem dX3_layMoves_2_102 : decode cX3_layMoves_2 102 = .ok (.invokevirtual 88, 3) := dk_182 0 88 (dk_at dksX3_layMoves_2_4 8 rfl rfl)
theorem dX3_layMoves_2_105 : decode cX3_layMoves_2 105 = .ok (.iload 7, 2) := dk_21 7 (dk_at dksX3_layMoves_2_4 11 rfl rfl)
theorem dX3_layMoves_2_107 : decode cX3_layMoves_2 107 = .ok (.invokestatic 92, 3) := dk_184 0 92 (dk_at dksX3_layMoves_2_4 13 rfl rfl)
theorem dX3_layMoves_2_110 : decode cX3_layMoves_2 110 = .ok (.if_icmp .ge 7, 3) := dk_162 0 7 (dk_at dksX3_layMoves_2_4 16 rfl rfl)
theorem dX3_layMoves_2_113 : decode cX3_layMoves_2 113 = .ok (.iconst 1, 1) := dk_4 (dk_at dksX3_layMoves_2_4 19 rfl rfl)
theorem dX3_layMoves_2_114 : decode cX3_layMoves_2 114 = .ok (.goto 4, 3) := dk_167 0 4 (dk_at dksX3_layMoves_2_4 20 rfl rfl)
theorem dX3_layMoves_2_117 : decode cX3_layMoves_2 117 = .ok (.iconst 0, 1) := dk_3 (dk_at dksX3_layMoves_2_4 23 rfl rfl)
theorem dX3_layMoves_2_118 : decode cX3_layMoves_2 118 = .ok (.istore 8, 2) := dk_54 8 (dk_at dksX3_layMoves_2_5 0 rfl rfl)
theorem dX3_layMoves_2_120 : decode cX3_layMoves_2 120 = .ok (.aload_n 0, 1) := dk_42 (dk_at dksX3_layMoves_2_5 2 rfl rfl)
theorem dX3_layMoves_2_121 : decode cX3_layMoves_2 121 = .ok (.getfield 29, 3) := dk_180 0 29 (dk_at dksX3_layMoves_2_5 3 rfl rfl)
theorem dX3_layMoves_2_124 : decode cX3_layMoves_2 124 = .ok (.iconst 4, 1) := dk_7 (dk_at dksX3_layMoves_2_5 6 rfl rfl)
theorem dX3_layMoves_2_125 : decode cX3_layMoves_2 125 = .ok (.iload 5, 2) := dk_21 5 (dk_at dksX3_layMoves_2_5 7 rfl rfl)
theorem dX3_layMoves_2_127 : decode cX3_layMoves_2 127 = .ok (.imul, 1) := dk_104 (dk_at dksX3_layMoves_2_5 9 rfl rfl)
theorem dX3_layMoves_2_128 : decode cX3_layMoves_2 128 = .ok (.iload_n 1, 1) := dk_27 (dk_at dksX3_layMoves_2_5 10 rfl rfl)
theorem dX3_layMoves_2_129 : decode cX3_layMoves_2 129 = .ok (.iadd, 1) := dk_96 (dk_at dksX3_layMoves_2_5 11 rfl rfl)
theorem dX3_layMoves_2_130 : decode cX3_layMoves_2 130 = .ok (.iload 7, 2) := dk_21 7 (dk_at dksX3_layMoves_2_5 12 rfl rfl)
theorem dX3_layMoves_2_132 : decode cX3_layMoves_2 132 = .ok (.iastore, 1) := dk_79 (dk_at dksX3_layMoves_2_5 14 rfl rfl)
theorem dX3_layMoves_2_133 : decode cX3_layMoves_2 133 = .ok (.aload_n 0, 1) := dk_42 (dk_at dksX3_layMoves_2_5 15 rfl rfl)
theorem dX3_layMoves_2_134 : decode cX3_layMoves_2 134 = .ok (.getfield 25, 3) := dk_180 0 25 (dk_at dksX3_layMoves_2_5 16 rfl rfl)
theorem dX3_layMoves_2_137 : decode cX3_layMoves_2 137 = .ok (.iconst 4, 1) := dk_7 (dk_at dksX3_layMoves_2_5 19 rfl rfl)
theorem dX3_layMoves_2_138 : decode cX3_layMoves_2 138 = .ok (.iload 5, 2) := dk_21 5 (dk_at dksX3_layMoves_2_5 20 rfl rfl)
theorem dX3_layMoves_2_140 : decode cX3_layMoves_2 140 = .ok (.imul, 1) := dk_104 (dk_at dksX3_layMoves_2_5 22 rfl rfl)
theorem dX3_layMoves_2_141 : decode cX3_layMoves_2 141 = .ok (.iload_n 1, 1) := dk_27 (dk_at dksX3_layMoves_2_5 23 rfl rfl)
theorem dX3_layMoves_2_142 : decode cX3_layMoves_2 142 = .ok (.iadd, 1) := dk_96 (dk_at dksX3_layMoves_2_6 0 rfl rfl)
theorem dX3_layMoves_2_143 : decode cX3_layMoves_2 143 = .ok (.aload 6, 2) := dk_25 6 (dk_at dksX3_layMoves_2_6 1 rfl rfl)
theorem dX3_layMoves_2_145 : decode cX3_layMoves_2 145 = .ok (.getfield 97, 3) := dk_180 0 97 (dk_at dksX3_layMoves_2_6 3 rfl rfl)
theorem dX3_layMoves_2_148 : decode cX3_layMoves_2 148 = .ok (.iload_n 3, 1) := dk_29 (dk_at dksX3_layMoves_2_6 6 rfl rfl)
theorem dX3_layMoves_2_149 : decode cX3_layMoves_2 149 = .ok (.if_icmp .ge 7, 3) := dk_162 0 7 (dk_at dksX3_layMoves_2_6 7 rfl rfl)
theorem dX3_layMoves_2_152 : decode cX3_layMoves_2 152 = .ok (.iconst 1, 1) := dk_4 (dk_at dksX3_layMoves_2_6 10 rfl rfl)
theorem dX3_layMoves_2_153 : decode cX3_layMoves_2 153 = .ok (.goto 13, 3) := dk_167 0 13 (dk_at dksX3_layMoves_2_6 11 rfl rfl)
theorem dX3_layMoves_2_156 : decode cX3_layMoves_2 156 = .ok (.iload 8, 2) := dk_21 8 (dk_at dksX3_layMoves_2_6 14 rfl rfl)
theorem dX3_layMoves_2_158 : decode cX3_layMoves_2 158 = .ok (.ifCond .eq 7, 3) := dk_153 0 7 (dk_at dksX3_layMoves_2_6 16 rfl rfl)
theorem dX3_layMoves_2_161 : decode cX3_layMoves_2 161 = .ok (.iconst 2, 1) := dk_5 (dk_at dksX3_layMoves_2_6 19 rfl rfl)
theorem dX3_layMoves_2_162 : decode cX3_layMoves_2 162 = .ok (.goto 4, 3) := dk_167 0 4 (dk_at dksX3_layMoves_2_6 20 rfl rfl)
theorem dX3_layMoves_2_165 : decode cX3_layMoves_2 165 = .ok (.iconst 0, 1) := dk_3 (dk_at dksX3_layMoves_2_6 23 rfl rfl)
theorem dX3_layMoves_2_166 : decode cX3_layMoves_2 166 = .ok (.iastore, 1) := dk_79 (dk_at dksX3_layMoves_2_7 0 rfl rfl)
theorem dX3_layMoves_2_167 : decode cX3_layMoves_2 167 = .ok (.aload 6, 2) := dk_25 6 (dk_at dksX3_layMoves_2_7 1 rfl rfl)
theorem dX3_layMoves_2_169 : decode cX3_layMoves_2 169 = .ok (.getfield 97, 3) := dk_180 0 97 (dk_at dksX3_layMoves_2_7 3 rfl rfl)
theorem dX3_layMoves_2_172 : decode cX3_layMoves_2 172 = .ok (.iload_n 3, 1) := dk_29 (dk_at dksX3_layMoves_2_7 6 rfl rfl)
theorem dX3_layMoves_2_173 : decode cX3_layMoves_2 173 = .ok (.if_icmp .lt 28, 3) := dk_161 0 28 (dk_at dksX3_layMoves_2_7 7 rfl rfl)
theorem dX3_layMoves_2_176 : decode cX3_layMoves_2 176 = .ok (.iload 8, 2) := dk_21 8 (dk_at dksX3_layMoves_2_7 10 rfl rfl)
theorem dX3_layMoves_2_178 : decode cX3_layMoves_2 178 = .ok (.ifCond .ne 23, 3) := dk_154 0 23 (dk_at dksX3_layMoves_2_7 12 rfl rfl)
theorem dX3_layMoves_2_181 : decode cX3_layMoves_2 181 = .ok (.aload 6, 2) := dk_25 6 (dk_at dksX3_layMoves_2_7 15 rfl rfl)
theorem dX3_layMoves_2_183 : decode cX3_layMoves_2 183 = .ok (.getfield 82, 3) := dk_180 0 82 (dk_at dksX3_layMoves_2_7 17 rfl rfl)
theorem dX3_layMoves_2_186 : decode cX3_layMoves_2 186 = .ok (.iload_n 1, 1) := dk_27 (dk_at dksX3_layMoves_2_7 20 rfl rfl)
theorem dX3_layMoves_2_187 : decode cX3_layMoves_2 187 = .ok (.iaload, 1) := dk_46 (dk_at dksX3_layMoves_2_7 21 rfl rfl)
theorem dX3_layMoves_2_188 : decode cX3_layMoves_2 188 = .ok (.istore_n 2, 1) := dk_61 (dk_at dksX3_layMoves_2_7 22 rfl rfl)
theorem dX3_layMoves_2_189 : decode cX3_layMoves_2 189 = .ok (.aload 6, 2) := dk_25 6 (dk_at dksX3_layMoves_2_8 0 rfl rfl)
theorem dX3_layMoves_2_191 : decode cX3_layMoves_2 191 = .ok (.getfield 97, 3) := dk_180 0 97 (dk_at dksX3_layMoves_2_8 2 rfl rfl)
theorem dX3_layMoves_2_194 : decode cX3_layMoves_2 194 = .ok (.aload 6, 2) := dk_25 6 (dk_at dksX3_layMoves_2_8 5 rfl rfl)
theorem dX3_layMoves_2_196 : decode cX3_layMoves_2 196 = .ok (.getfield 85, 3) := dk_180 0 85 (dk_at dksX3_layMoves_2_8 7 rfl rfl)
theorem dX3_layMoves_2_199 : decode cX3_layMoves_2 199 = .ok (.iadd, 1) := dk_96 (dk_at dksX3_layMoves_2_8 10 rfl rfl)
theorem dX3_layMoves_2_200 : decode cX3_layMoves_2 200 = .ok (.istore_n 3, 1) := dk_62 (dk_at dksX3_layMoves_2_8 11 rfl rfl)
theorem dX3_layMoves_2_201 : decode cX3_layMoves_2 201 = .ok (.goto (-171), 3) := dk_167 255 85 (dk_at dksX3_layMoves_2_8 12 rfl rfl)
theorem dX3_layMoves_2_204 : decode cX3_layMoves_2 204 = .ok (.return_, 1) := dk_177 (dk_at dksX3_layMoves_2_8 15 rfl rfl)
abbrev cX3_count : ByteArray := prog_6_method_13_code
def yX3_count : MethodName := ⟨RX3, "count", "(I)I"⟩
def dkwX3_count_1 : List UInt8 := [182, 0, 170, 96, 61, 132, 3, 1, 167, 255, 230, 28, 172]
abbrev dktX3_count_1 : List UInt8 := dkwX3_count_1 ++ []
def dkwX3_count_0 : List UInt8 := [3, 61, 3, 62, 29, 42, 180, 0, 19, 180, 0, 77, 182, 0, 41, 162, 0, 18, 28, 42, 29, 27]
abbrev dktX3_count_0 : List UInt8 := dkwX3_count_0 ++ dktX3_count_1
theorem dksX3_count_0 : cX3_count.data.toList.drop 0 = dktX3_count_0 := by decide +kernel
theorem dksX3_count_1 : cX3_count.data.toList.drop 22 = dktX3_count_1 := dk_seg dksX3_count_0 22 rfl rfl
theorem dX3_count_0 : decode cX3_count 0 = .ok (.iconst 0, 1) := dk_3 (dk_at dksX3_count_0 0 rfl rfl)
theorem dX3_count_1 : decode cX3_count 1 = .ok (.istore_n 2, 1) := dk_61 (dk_at dksX3_count_0 1 rfl rfl)
theorem dX3_count_2 : decode cX3_count 2 = .ok (.iconst 0, 1) := dk_3 (dk_at dksX3_count_0 2 rfl rfl)
theorem dX3_count_3 : decode cX3_count 3 = .ok (.istore_n 3, 1) := dk_62 (dk_at dksX3_count_0 3 rfl rfl)
theorem dX3_count_4 : decode cX3_count 4 = .ok (.iload_n 3, 1) := dk_29 (dk_at dksX3_count_0 4 rfl rfl)
theorem dX3_count_5 : decode cX3_count 5 = .ok (.aload_n 0, 1) := dk_42 (dk_at dksX3_count_0 5 rfl rfl)
theorem dX3_count_6 : decode cX3_count 6 = .ok (.getfield 19, 3) := dk_180 0 19 (dk_at dksX3_count_0 6 rfl rfl)
theorem dX3_count_9 : decode cX3_count 9 = .ok (.getfield 77, 3) := dk_180 0 77 (dk_at dksX3_count_0 9 rfl rfl)
theorem dX3_count_12 : decode cX3_count 12 = .ok (.invokevirtual 41, 3) := dk_182 0 41 (dk_at dksX3_count_0 12 rfl rfl)
theorem dX3_count_15 : decode cX3_count 15 = .ok (.if_icmp .ge 18, 3) := dk_162 0 18 (dk_at dksX3_count_0 15 rfl rfl)
theorem dX3_count_18 : decode cX3_count 18 = .ok (.iload_n 2, 1) := dk_28 (dk_at dksX3_count_0 18 rfl rfl)
theorem dX3_count_19 : decode cX3_count 19 = .ok (.aload_n 0, 1) := dk_42 (dk_at dksX3_count_0 19 rfl rfl)
theorem dX3_count_20 : decode cX3_count 20 = .ok (.iload_n 3, 1) := dk_29 (dk_at dksX3_count_0 20 rfl rfl)
theorem dX3_count_21 : decode cX3_count 21 = .ok (.iload_n 1, 1) := dk_27 (dk_at dksX3_count_0 21 rfl rfl)
theorem dX3_count_22 : decode cX3_count 22 = .ok (.invokevirtual 170, 3) := dk_182 0 170 (dk_at dksX3_count_1 0 rfl rfl)
theorem dX3_count_25 : decode cX3_count 25 = .ok (.iadd, 1) := dk_96 (dk_at dksX3_count_1 3 rfl rfl)
theorem dX3_count_26 : decode cX3_count 26 = .ok (.istore_n 2, 1) := dk_61 (dk_at dksX3_count_1 4 rfl rfl)
theorem dX3_count_27 : decode cX3_count 27 = .ok (.iinc 3 1, 3) := dk_132 3 1 (dk_at dksX3_count_1 5 rfl rfl)
theorem dX3_count_30 : decode cX3_count 30 = .ok (.goto (-26), 3) := dk_167 255 230 (dk_at dksX3_count_1 8 rfl rfl)
theorem dX3_count_33 : decode cX3_count 33 = .ok (.iload_n 2, 1) := dk_28 (dk_at dksX3_count_1 11 rfl rfl)
theorem dX3_count_34 : decode cX3_count 34 = .ok (.ireturn, 1) := dk_172 (dk_at dksX3_count_1 12 rfl rfl)
abbrev cX3_countOf : ByteArray := prog_6_method_14_code
def yX3_countOf : MethodName := ⟨RX3, "countOf", "(II)I"⟩
def dkwX3_countOf_2 : List UInt8 := [46, 28, 160, 0, 7, 4, 167, 0, 4, 3, 96, 62, 132, 4, 1, 167, 255, 199, 29, 172]
abbrev dktX3_countOf_2 : List UInt8 := dkwX3_countOf_2 ++ []
def dkwX3_countOf_1 : List UInt8 := [192, 0, 80, 180, 0, 103, 21, 4, 184, 0, 105, 153, 0, 22, 42, 180, 0, 25, 7, 27, 104, 21, 4, 96]
abbrev dktX3_countOf_1 : List UInt8 := dkwX3_countOf_1 ++ dktX3_countOf_2
def dkwX3_countOf_0 : List UInt8 := [3, 62, 3, 54, 4, 21, 4, 7, 162, 0, 57, 29, 42, 180, 0, 19, 180, 0, 77, 27, 182, 0, 48]
abbrev dktX3_countOf_0 : List UInt8 := dkwX3_countOf_0 ++ dktX3_countOf_1
theorem dksX3_countOf_0 : cX3_countOf.data.toList.drop 0 = dktX3_countOf_0 := by decide +kernel
theorem dksX3_countOf_1 : cX3_countOf.data.toList.drop 23 = dktX3_countOf_1 := dk_seg dksX3_countOf_0 23 rfl rfl
theorem dksX3_countOf_2 : cX3_countOf.data.toList.drop 47 = dktX3_countOf_2 := dk_seg dksX3_countOf_1 24 rfl rfl
theorem dX3_countOf_0 : decode cX3_countOf 0 = .ok (.iconst 0, 1) := dk_3 (dk_at dksX3_countOf_0 0 rfl rfl)
theorem dX3_countOf_1 : decode cX3_countOf 1 = .ok (.istore_n 3, 1) := dk_62 (dk_at dksX3_countOf_0 1 rfl rfl)
theorem dX3_countOf_2 : decode cX3_countOf 2 = .ok (.iconst 0, 1) := dk_3 (dk_at dksX3_countOf_0 2 rfl rfl)
theorem dX3_countOf_3 : decode cX3_countOf 3 = .ok (.istore 4, 2) := dk_54 4 (dk_at dksX3_countOf_0 3 rfl rfl)
theorem dX3_countOf_5 : decode cX3_countOf 5 = .ok (.iload 4, 2) := dk_21 4 (dk_at dksX3_countOf_0 5 rfl rfl)
theorem dX3_countOf_7 : decode cX3_countOf 7 = .ok (.iconst 4, 1) := dk_7 (dk_at dksX3_countOf_0 7 rfl rfl)
theorem dX3_countOf_8 : decode cX3_countOf 8 = .ok (.if_icmp .ge 57, 3) := dk_162 0 57 (dk_at dksX3_countOf_0 8 rfl rfl)
theorem dX3_countOf_11 : decode cX3_countOf 11 = .ok (.iload_n 3, 1) := dk_29 (dk_at dksX3_countOf_0 11 rfl rfl)
theorem dX3_countOf_12 : decode cX3_countOf 12 = .ok (.aload_n 0, 1) := dk_42 (dk_at dksX3_countOf_0 12 rfl rfl)
theorem dX3_countOf_13 : decode cX3_countOf 13 = .ok (.getfield 19, 3) := dk_180 0 19 (dk_at dksX3_countOf_0 13 rfl rfl)
theorem dX3_countOf_16 : decode cX3_countOf 16 = .ok (.getfield 77, 3) := dk_180 0 77 (dk_at dksX3_countOf_0 16 rfl rfl)
theorem dX3_countOf_19 : decode cX3_countOf 19 = .ok (.iload_n 1, 1) := dk_27 (dk_at dksX3_countOf_0 19 rfl rfl)
theorem dX3_countOf_20 : decode cX3_countOf 20 = .ok (.invokevirtual 48, 3) := dk_182 0 48 (dk_at dksX3_countOf_0 20 rfl rfl)
theorem dX3_countOf_23 : decode cX3_countOf 23 = .ok (.checkcast 80, 3) := dk_192 0 80 (dk_at dksX3_countOf_1 0 rfl rfl)
theorem dX3_countOf_26 : decode cX3_countOf 26 = .ok (.getfield 103, 3) := dk_180 0 103 (dk_at dksX3_countOf_1 3 rfl rfl)
theorem dX3_countOf_29 : decode cX3_countOf 29 = .ok (.iload 4, 2) := dk_21 4 (dk_at dksX3_countOf_1 6 rfl rfl)
theorem dX3_countOf_31 : decode cX3_countOf 31 = .ok (.invokestatic 105, 3) := dk_184 0 105 (dk_at dksX3_countOf_1 8 rfl rfl)
theorem dX3_countOf_34 : decode cX3_countOf 34 = .ok (.ifCond .eq 22, 3) := dk_153 0 22 (dk_at dksX3_countOf_1 11 rfl rfl)
theorem dX3_countOf_37 : decode cX3_countOf 37 = .ok (.aload_n 0, 1) := dk_42 (dk_at dksX3_countOf_1 14 rfl rfl)
theorem dX3_countOf_38 : decode cX3_countOf 38 = .ok (.getfield 25, 3) := dk_180 0 25 (dk_at dksX3_countOf_1 15 rfl rfl)
theorem dX3_countOf_41 : decode cX3_countOf 41 = .ok (.iconst 4, 1) := dk_7 (dk_at dksX3_countOf_1 18 rfl rfl)
theorem dX3_countOf_42 : decode cX3_countOf 42 = .ok (.iload_n 1, 1) := dk_27 (dk_at dksX3_countOf_1 19 rfl rfl)
theorem dX3_countOf_43 : decode cX3_countOf 43 = .ok (.imul, 1) := dk_104 (dk_at dksX3_countOf_1 20 rfl rfl)
theorem dX3_countOf_44 : decode cX3_countOf 44 = .ok (.iload 4, 2) := dk_21 4 (dk_at dksX3_countOf_1 21 rfl rfl)
theorem dX3_countOf_46 : decode cX3_countOf 46 = .ok (.iadd, 1) := dk_96 (dk_at dksX3_countOf_1 23 rfl rfl)
theorem dX3_countOf_47 : decode cX3_countOf 47 = .ok (.iaload, 1) := dk_46 (dk_at dksX3_countOf_2 0 rfl rfl)
theorem dX3_countOf_48 : decode cX3_countOf 48 = .ok (.iload_n 2, 1) := dk_28 (dk_at dksX3_countOf_2 1 rfl rfl)
theorem dX3_countOf_49 : decode cX3_countOf 49 = .ok (.if_icmp .ne 7, 3) := dk_160 0 7 (dk_at dksX3_countOf_2 2 rfl rfl)
theorem dX3_countOf_52 : decode cX3_countOf 52 = .ok (.iconst 1, 1) := dk_4 (dk_at dksX3_countOf_2 5 rfl rfl)
theorem dX3_countOf_53 : decode cX3_countOf 53 = .ok (.goto 4, 3) := dk_167 0 4 (dk_at dksX3_countOf_2 6 rfl rfl)
theorem dX3_countOf_56 : decode cX3_countOf 56 = .ok (.iconst 0, 1) := dk_3 (dk_at dksX3_countOf_2 9 rfl rfl)
theorem dX3_countOf_57 : decode cX3_countOf 57 = .ok (.iadd, 1) := dk_96 (dk_at dksX3_countOf_2 10 rfl rfl)
theorem dX3_countOf_58 : decode cX3_countOf 58 = .ok (.istore_n 3, 1) := dk_62 (dk_at dksX3_countOf_2 11 rfl rfl)
theorem dX3_countOf_59 : decode cX3_countOf 59 = .ok (.iinc 4 1, 3) := dk_132 4 1 (dk_at dksX3_countOf_2 12 rfl rfl)
theorem dX3_countOf_62 : decode cX3_countOf 62 = .ok (.goto (-57), 3) := dk_167 255 199 (dk_at dksX3_countOf_2 15 rfl rfl)
theorem dX3_countOf_65 : decode cX3_countOf 65 = .ok (.iload_n 3, 1) := dk_29 (dk_at dksX3_countOf_2 18 rfl rfl)
theorem dX3_countOf_66 : decode cX3_countOf 66 = .ok (.ireturn, 1) := dk_172 (dk_at dksX3_countOf_2 19 rfl rfl)
abbrev cX3_lay : ByteArray := prog_6_method_4_code
def yX3_lay : MethodName := ⟨RX3, "lay", "(LCameraMoves$Plan;)LCameraMoves$Film;"⟩
def dkwX3_lay_7 : List UInt8 := [132, 3, 1, 167, 255, 225, 132, 2, 1, 167, 255, 89, 42, 176]
abbrev dktX3_lay_7 : List UInt8 := dkwX3_lay_7 ++ []
def dkwX3_lay_6 : List UInt8 := [163, 0, 30, 42, 180, 0, 34, 28, 50, 29, 92, 46, 42, 180, 0, 34, 28, 50, 29, 4, 100, 46, 96, 79]
abbrev dktX3_lay_6 : List UInt8 := dkwX3_lay_6 ++ dktX3_lay_7
def dkwX3_lay_5 : List UInt8 := [42, 180, 0, 19, 180, 0, 37, 28, 182, 0, 48, 192, 0, 52, 180, 0, 54, 79, 4, 62, 29, 17, 3, 231]
abbrev dktX3_lay_5 : List UInt8 := dkwX3_lay_5 ++ dktX3_lay_6
def dkwX3_lay_4 : List UInt8 := [96, 46, 154, 0, 9, 42, 29, 28, 182, 0, 109, 132, 3, 1, 167, 255, 196, 42, 180, 0, 34, 28, 50, 3]
abbrev dktX3_lay_4 : List UInt8 := dkwX3_lay_4 ++ dktX3_lay_5
def dkwX3_lay_3 : List UInt8 := [182, 0, 48, 192, 0, 80, 180, 0, 103, 28, 184, 0, 105, 153, 0, 22, 42, 180, 0, 25, 7, 29, 104, 28]
abbrev dktX3_lay_3 : List UInt8 := dkwX3_lay_3 ++ dktX3_lay_4
def dkwX3_lay_2 : List UInt8 := [29, 42, 180, 0, 19, 180, 0, 77, 182, 0, 41, 162, 0, 52, 42, 180, 0, 19, 180, 0, 77, 29]
abbrev dktX3_lay_2 : List UInt8 := dkwX3_lay_2 ++ dktX3_lay_3
def dkwX3_lay_1 : List UInt8 := [29, 17, 3, 231, 163, 0, 18, 42, 180, 0, 34, 28, 50, 29, 3, 79, 132, 3, 1, 167, 255, 237, 3, 62]
abbrev dktX3_lay_1 : List UInt8 := dkwX3_lay_1 ++ dktX3_lay_2
def dkwX3_lay_0 : List UInt8 := [42, 43, 182, 0, 100, 87, 3, 61, 28, 42, 180, 0, 19, 180, 0, 37, 182, 0, 41, 162, 0, 159, 3, 62]
abbrev dktX3_lay_0 : List UInt8 := dkwX3_lay_0 ++ dktX3_lay_1
theorem dksX3_lay_0 : cX3_lay.data.toList.drop 0 = dktX3_lay_0 := by decide +kernel
theorem dksX3_lay_1 : cX3_lay.data.toList.drop 24 = dktX3_lay_1 := dk_seg dksX3_lay_0 24 rfl rfl
theorem dksX3_lay_2 : cX3_lay.data.toList.drop 48 = dktX3_lay_2 := dk_seg dksX3_lay_1 24 rfl rfl
theorem dksX3_lay_3 : cX3_lay.data.toList.drop 70 = dktX3_lay_3 := dk_seg dksX3_lay_2 22 rfl rfl
theorem dksX3_lay_4 : cX3_lay.data.toList.drop 94 = dktX3_lay_4 := dk_seg dksX3_lay_3 24 rfl rfl
theorem dksX3_lay_5 : cX3_lay.data.toList.drop 118 = dktX3_lay_5 := dk_seg dksX3_lay_4 24 rfl rfl
theorem dksX3_lay_6 : cX3_lay.data.toList.drop 142 = dktX3_lay_6 := dk_seg dksX3_lay_5 24 rfl rfl
theorem dksX3_lay_7 : cX3_lay.data.toList.drop 166 = dktX3_lay_7 := dk_seg dksX3_lay_6 24 rfl rfl
theorem dX3_lay_0 : decode cX3_lay 0 = .ok (.aload_n 0, 1) := dk_42 (dk_at dksX3_lay_0 0 rfl rfl)
theorem dX3_lay_1 : decode cX3_lay 1 = .ok (.aload_n 1, 1) := dk_43 (dk_at dksX3_lay_0 1 rfl rfl)
theorem dX3_lay_2 : decode cX3_lay 2 = .ok (.invokevirtual 100, 3) := dk_182 0 100 (dk_at dksX3_lay_0 2 rfl rfl)
theorem dX3_lay_5 : decode cX3_lay 5 = .ok (.pop, 1) := dk_87 (dk_at dksX3_lay_0 5 rfl rfl)
theorem dX3_lay_6 : decode cX3_lay 6 = .ok (.iconst 0, 1) := dk_3 (dk_at dksX3_lay_0 6 rfl rfl)
theorem dX3_lay_7 : decode cX3_lay 7 = .ok (.istore_n 2, 1) := dk_61 (dk_at dksX3_lay_0 7 rfl rfl)
theorem dX3_lay_8 : decode cX3_lay 8 = .ok (.iload_n 2, 1) := dk_28 (dk_at dksX3_lay_0 8 rfl rfl)
theorem dX3_lay_9 : decode cX3_lay 9 = .ok (.aload_n 0, 1) := dk_42 (dk_at dksX3_lay_0 9 rfl rfl)
theorem dX3_lay_10 : decode cX3_lay 10 = .ok (.getfield 19, 3) := dk_180 0 19 (dk_at dksX3_lay_0 10 rfl rfl)
theorem dX3_lay_13 : decode cX3_lay 13 = .ok (.getfield 37, 3) := dk_180 0 37 (dk_at dksX3_lay_0 13 rfl rfl)
theorem dX3_lay_16 : decode cX3_lay 16 = .ok (.invokevirtual 41, 3) := dk_182 0 41 (dk_at dksX3_lay_0 16 rfl rfl)
theorem dX3_lay_19 : decode cX3_lay 19 = .ok (.if_icmp .ge 159, 3) := dk_162 0 159 (dk_at dksX3_lay_0 19 rfl rfl)
theorem dX3_lay_22 : decode cX3_lay 22 = .ok (.iconst 0, 1) := dk_3 (dk_at dksX3_lay_0 22 rfl rfl)
theorem dX3_lay_23 : decode cX3_lay 23 = .ok (.istore_n 3, 1) := dk_62 (dk_at dksX3_lay_0 23 rfl rfl)
theorem dX3_lay_24 : decode cX3_lay 24 = .ok (.iload_n 3, 1) := dk_29 (dk_at dksX3_lay_1 0 rfl rfl)
theorem dX3_lay_25 : decode cX3_lay 25 = .ok (.sipush 999, 3) := dk_17 3 231 (dk_at dksX3_lay_1 1 rfl rfl)
theorem dX3_lay_28 : decode cX3_lay 28 = .ok (.if_icmp .gt 18, 3) := dk_163 0 18 (dk_at dksX3_lay_1 4 rfl rfl)
theorem dX3_lay_31 : decode cX3_lay 31 = .ok (.aload_n 0, 1) := dk_42 (dk_at dksX3_lay_1 7 rfl rfl)
theorem dX3_lay_32 : decode cX3_lay 32 = .ok (.getfield 34, 3) := dk_180 0 34 (dk_at dksX3_lay_1 8 rfl rfl)
theorem dX3_lay_35 : decode cX3_lay 35 = .ok (.iload_n 2, 1) := dk_28 (dk_at dksX3_lay_1 11 rfl rfl)
theorem dX3_lay_36 : decode cX3_lay 36 = .ok (.aaload, 1) := dk_50 (dk_at dksX3_lay_1 12 rfl rfl)
theorem dX3_lay_37 : decode cX3_lay 37 = .ok (.iload_n 3, 1) := dk_29 (dk_at dksX3_lay_1 13 rfl rfl)
theorem dX3_lay_38 : decode cX3_lay 38 = .ok (.iconst 0, 1) := dk_3 (dk_at dksX3_lay_1 14 rfl rfl)
theorem dX3_lay_39 : decode cX3_lay 39 = .ok (.iastore, 1) := dk_79 (dk_at dksX3_lay_1 15 rfl rfl)
theorem dX3_lay_40 : decode cX3_lay 40 = .ok (.iinc 3 1, 3) := dk_132 3 1 (dk_at dksX3_lay_1 16 rfl rfl)
theorem dX3_lay_43 : decode cX3_lay 43 = .ok (.goto (-19), 3) := dk_167 255 237 (dk_at dksX3_lay_1 19 rfl rfl)
theorem dX3_lay_46 : decode cX3_lay 46 = .ok (.iconst 0, 1) := dk_3 (dk_at dksX3_lay_1 22 rfl rfl)
theorem dX3_lay_47 : decode cX3_lay 47 = .ok (.istore_n 3, 1) := dk_62 (dk_at dksX3_lay_1 23 rfl rfl)
theorem dX3_lay_48 : decode cX3_lay 48 = .ok (.iload_n 3, 1) := dk_29 (dk_at dksX3_lay_2 0 rfl rfl)
theorem dX3_lay_49 : decode cX3_lay 49 = .ok (.aload_n 0, 1) := dk_42 (dk_at dksX3_lay_2 1 rfl rfl)
theorem dX3_lay_50 : decode cX3_lay 50 = .ok (.getfield 19, 3) := dk_180 0 19 (dk_at dksX3_lay_2 2 rfl rfl)
theorem dX3_lay_53 : decode cX3_lay 53 = .ok (.getfield 77, 3) := dk_180 0 77 (dk_at dksX3_lay_2 5 rfl rfl)
theorem dX3_lay_56 : decode cX3_lay 56 = .ok (.invokevirtual 41, 3) := dk_182 0 41 (dk_at dksX3_lay_2 8 rfl rfl)
theorem dX3_lay_59 : decode cX3_lay 59 = .ok (.if_icmp .ge 52, 3) := dk_162 0 52 (dk_at dksX3_lay_2 11 rfl rfl)
theorem dX3_lay_62 : decode cX3_lay 62 = .ok (.aload_n 0, 1) := dk_42 (dk_at dksX3_lay_2 14 rfl rfl)
theorem dX3_lay_63 : decode cX3_lay 63 = .ok (.getfield 19, 3) := dk_180 0 19 (dk_at dksX3_lay_2 15 rfl rfl)
theorem dX3_lay_66 : decode cX3_lay 66 = .ok (.getfield 77, 3) := dk_180 0 77 (dk_at dksX3_lay_2 18 rfl rfl)
theorem dX3_lay_69 : decode cX3_lay 69 = .ok (.iload_n 3, 1) := dk_29 (dk_at dksX3_lay_2 21 rfl rfl)
theorem dX3_lay_70 : decode cX3_lay 70 = .ok (.invokevirtual 48, 3) := dk_182 0 48 (dk_at dksX3_lay_3 0 rfl rfl)
theorem dX3_lay_73 : decode cX3_lay 73 = .ok (.checkcast 80, 3) := dk_192 0 80 (dk_at dksX3_lay_3 3 rfl rfl)
theorem dX3_lay_76 : decode cX3_lay 76 = .ok (.getfield 103, 3) := dk_180 0 103 (dk_at dksX3_lay_3 6 rfl rfl)
theorem dX3_lay_79 : decode cX3_lay 79 = .ok (.iload_n 2, 1) := dk_28 (dk_at dksX3_lay_3 9 rfl rfl)
theorem dX3_lay_80 : decode cX3_lay 80 = .ok (.invokestatic 105, 3) := dk_184 0 105 (dk_at dksX3_lay_3 10 rfl rfl)
theorem dX3_lay_83 : decode cX3_lay 83 = .ok (.ifCond .eq 22, 3) := dk_153 0 22 (dk_at dksX3_lay_3 13 rfl rfl)
theorem dX3_lay_86 : decode cX3_lay 86 = .ok (.aload_n 0, 1) := dk_42 (dk_at dksX3_lay_3 16 rfl rfl)
theorem dX3_lay_87 : decode cX3_lay 87 = .ok (.getfield 25, 3) := dk_180 0 25 (dk_at dksX3_lay_3 17 rfl rfl)
theorem dX3_lay_90 : decode cX3_lay 90 = .ok (.iconst 4, 1) := dk_7 (dk_at dksX3_lay_3 20 rfl rfl)
theorem dX3_lay_91 : decode cX3_lay 91 = .ok (.iload_n 3, 1) := dk_29 (dk_at dksX3_lay_3 21 rfl rfl)
theorem dX3_lay_92 : decode cX3_lay 92 = .ok (.imul, 1) := dk_104 (dk_at dksX3_lay_3 22 rfl rfl)
theorem dX3_lay_93 : decode cX3_lay 93 = .ok (.iload_n 2, 1) := dk_28 (dk_at dksX3_lay_3 23 rfl rfl)
theorem dX3_lay_94 : decode cX3_lay 94 = .ok (.iadd, 1) := dk_96 (dk_at dksX3_lay_4 0 rfl rfl)
theorem dX3_lay_95 : decode cX3_lay 95 = .ok (.iaload, 1) := dk_46 (dk_at dksX3_lay_4 1 rfl rfl)
theorem dX3_lay_96 : decode cX3_lay 96 = .ok (.ifCond .ne 9, 3) := dk_154 0 9 (dk_at dksX3_lay_4 2 rfl rfl)
theorem dX3_lay_99 : decode cX3_lay 99 = .ok (.aload_n 0, 1) := dk_42 (dk_at dksX3_lay_4 5 rfl rfl)
theorem dX3_lay_100 : decode cX3_lay 100 = .ok (.iload_n 3, 1) := dk_29 (dk_at dksX3_lay_4 6 rfl rfl)
theorem dX3_lay_101 : decode cX3_lay 101 = .ok (.iload_n 2, 1) := dk_28 (dk_at dksX3_lay_4 7 rfl rfl)
theorem dX3_lay_102 : decode cX3_lay 102 = .ok (.invokevirtual 109, 3) := dk_182 0 109 (dk_at dksX3_lay_4 8 rfl rfl)
theorem dX3_lay_105 : decode cX3_lay 105 = .ok (.iinc 3 1, 3) := dk_132 3 1 (dk_at dksX3_lay_4 11 rfl rfl)
theorem dX3_lay_108 : decode cX3_lay 108 = .ok (.goto (-60), 3) := dk_167 255 196 (dk_at dksX3_lay_4 14 rfl rfl)
theorem dX3_lay_111 : decode cX3_lay 111 = .ok (.aload_n 0, 1) := dk_42 (dk_at dksX3_lay_4 17 rfl rfl)
theorem dX3_lay_112 : decode cX3_lay 112 = .ok (.getfield 34, 3) := dk_180 0 34 (dk_at dksX3_lay_4 18 rfl rfl)
theorem dX3_lay_115 : decode cX3_lay 115 = .ok (.iload_n 2, 1) := dk_28 (dk_at dksX3_lay_4 21 rfl rfl)
theorem dX3_lay_116 : decode cX3_lay 116 = .ok (.aaload, 1) := dk_50 (dk_at dksX3_lay_4 22 rfl rfl)
theorem dX3_lay_117 : decode cX3_lay 117 = .ok (.iconst 0, 1) := dk_3 (dk_at dksX3_lay_4 23 rfl rfl)
theorem dX3_lay_118 : decode cX3_lay 118 = .ok (.aload_n 0, 1) := dk_42 (dk_at dksX3_lay_5 0 rfl rfl)
theorem dX3_lay_119 : decode cX3_lay 119 = .ok (.getfield 19, 3) := dk_180 0 19 (dk_at dksX3_lay_5 1 rfl rfl)
theorem dX3_lay_122 : decode cX3_lay 122 = .ok (.getfield 37, 3) := dk_180 0 37 (dk_at dksX3_lay_5 4 rfl rfl)
theorem dX3_lay_125 : decode cX3_lay 125 = .ok (.iload_n 2, 1) := dk_28 (dk_at dksX3_lay_5 7 rfl rfl)
theorem dX3_lay_126 : decode cX3_lay 126 = .ok (.invokevirtual 48, 3) := dk_182 0 48 (dk_at dksX3_lay_5 8 rfl rfl)
theorem dX3_lay_129 : decode cX3_lay 129 = .ok (.checkcast 52, 3) := dk_192 0 52 (dk_at dksX3_lay_5 11 rfl rfl)
theorem dX3_lay_132 : decode cX3_lay 132 = .ok (.getfield 54, 3) := dk_180 0 54 (dk_at dksX3_lay_5 14 rfl rfl)
theorem dX3_lay_135 : decode cX3_lay 135 = .ok (.iastore, 1) := dk_79 (dk_at dksX3_lay_5 17 rfl rfl)
theorem dX3_lay_136 : decode cX3_lay 136 = .ok (.iconst 1, 1) := dk_4 (dk_at dksX3_lay_5 18 rfl rfl)
theorem dX3_lay_137 : decode cX3_lay 137 = .ok (.istore_n 3, 1) := dk_62 (dk_at dksX3_lay_5 19 rfl rfl)
theorem dX3_lay_138 : decode cX3_lay 138 = .ok (.iload_n 3, 1) := dk_29 (dk_at dksX3_lay_5 20 rfl rfl)
theorem dX3_lay_139 : decode cX3_lay 139 = .ok (.sipush 999, 3) := dk_17 3 231 (dk_at dksX3_lay_5 21 rfl rfl)
theorem dX3_lay_142 : decode cX3_lay 142 = .ok (.if_icmp .gt 30, 3) := dk_163 0 30 (dk_at dksX3_lay_6 0 rfl rfl)
theorem dX3_lay_145 : decode cX3_lay 145 = .ok (.aload_n 0, 1) := dk_42 (dk_at dksX3_lay_6 3 rfl rfl)
theorem dX3_lay_146 : decode cX3_lay 146 = .ok (.getfield 34, 3) := dk_180 0 34 (dk_at dksX3_lay_6 4 rfl rfl)
theorem dX3_lay_149 : decode cX3_lay 149 = .ok (.iload_n 2, 1) := dk_28 (dk_at dksX3_lay_6 7 rfl rfl)
theorem dX3_lay_150 : decode cX3_lay 150 = .ok (.aaload, 1) := dk_50 (dk_at dksX3_lay_6 8 rfl rfl)
theorem dX3_lay_151 : decode cX3_lay 151 = .ok (.iload_n 3, 1) := dk_29 (dk_at dksX3_lay_6 9 rfl rfl)
theorem dX3_lay_152 : decode cX3_lay 152 = .ok (.dup2, 1) := dk_92 (dk_at dksX3_lay_6 10 rfl rfl)
theorem dX3_lay_153 : decode cX3_lay 153 = .ok (.iaload, 1) := dk_46 (dk_at dksX3_lay_6 11 rfl rfl)
theorem dX3_lay_154 : decode cX3_lay 154 = .ok (.aload_n 0, 1) := dk_42 (dk_at dksX3_lay_6 12 rfl rfl)
theorem dX3_lay_155 : decode cX3_lay 155 = .ok (.getfield 34, 3) := dk_180 0 34 (dk_at dksX3_lay_6 13 rfl rfl)
theorem dX3_lay_158 : decode cX3_lay 158 = .ok (.iload_n 2, 1) := dk_28 (dk_at dksX3_lay_6 16 rfl rfl)
theorem dX3_lay_159 : decode cX3_lay 159 = .ok (.aaload, 1) := dk_50 (dk_at dksX3_lay_6 17 rfl rfl)
theorem dX3_lay_160 : decode cX3_lay 160 = .ok (.iload_n 3, 1) := dk_29 (dk_at dksX3_lay_6 18 rfl rfl)
theorem dX3_lay_161 : decode cX3_lay 161 = .ok (.iconst 1, 1) := dk_4 (dk_at dksX3_lay_6 19 rfl rfl)
theorem dX3_lay_162 : decode cX3_lay 162 = .ok (.isub, 1) := dk_100 (dk_at dksX3_lay_6 20 rfl rfl)
theorem dX3_lay_163 : decode cX3_lay 163 = .ok (.iaload, 1) := dk_46 (dk_at dksX3_lay_6 21 rfl rfl)
theorem dX3_lay_164 : decode cX3_lay 164 = .ok (.iadd, 1) := dk_96 (dk_at dksX3_lay_6 22 rfl rfl)
theorem dX3_lay_165 : decode cX3_lay 165 = .ok (.iastore, 1) := dk_79 (dk_at dksX3_lay_6 23 rfl rfl)
theorem dX3_lay_166 : decode cX3_lay 166 = .ok (.iinc 3 1, 3) := dk_132 3 1 (dk_at dksX3_lay_7 0 rfl rfl)
theorem dX3_lay_169 : decode cX3_lay 169 = .ok (.goto (-31), 3) := dk_167 255 225 (dk_at dksX3_lay_7 3 rfl rfl)
theorem dX3_lay_172 : decode cX3_lay 172 = .ok (.iinc 2 1, 3) := dk_132 2 1 (dk_at dksX3_lay_7 6 rfl rfl)
theorem dX3_lay_175 : decode cX3_lay 175 = .ok (.goto (-167), 3) := dk_167 255 89 (dk_at dksX3_lay_7 9 rfl rfl)
theorem dX3_lay_178 : decode cX3_lay 178 = .ok (.aload_n 0, 1) := dk_42 (dk_at dksX3_lay_7 12 rfl rfl)
theorem dX3_lay_179 : decode cX3_lay 179 = .ok (.areturn, 1) := dk_176 (dk_at dksX3_lay_7 13 rfl rfl)
abbrev cX3_layMove : ByteArray := prog_6_method_5_code
def yX3_layMove : MethodName := ⟨RX3, "layMove", "(II)V"⟩
def dkwX3_layMove_3 : List UInt8 := [180, 0, 97, 21, 5, 96, 25, 4, 21, 5, 182, 0, 118, 79, 132, 5, 1, 167, 255, 223, 177]
abbrev dktX3_layMove_3 : List UInt8 := dkwX3_layMove_3 ++ []
def dkwX3_layMove_2 : List UInt8 := [183, 0, 115, 58, 4, 4, 54, 5, 21, 5, 45, 180, 0, 85, 163, 0, 30, 42, 180, 0, 34, 28, 50, 45]
abbrev dktX3_layMove_2 : List UInt8 := dkwX3_layMove_2 ++ dktX3_layMove_3
def dkwX3_layMove_1 : List UInt8 := [180, 0, 37, 28, 182, 0, 48, 192, 0, 52, 42, 180, 0, 29, 7, 27, 104, 28, 96, 46, 45, 180, 0, 85]
abbrev dktX3_layMove_1 : List UInt8 := dkwX3_layMove_1 ++ dktX3_layMove_2
def dkwX3_layMove_0 : List UInt8 := [42, 180, 0, 19, 180, 0, 77, 27, 182, 0, 48, 192, 0, 80, 78, 187, 0, 113, 89, 42, 180, 0, 19]
abbrev dktX3_layMove_0 : List UInt8 := dkwX3_layMove_0 ++ dktX3_layMove_1
theorem dksX3_layMove_0 : cX3_layMove.data.toList.drop 0 = dktX3_layMove_0 := by decide +kernel
theorem dksX3_layMove_1 : cX3_layMove.data.toList.drop 23 = dktX3_layMove_1 := dk_seg dksX3_layMove_0 23 rfl rfl
theorem dksX3_layMove_2 : cX3_layMove.data.toList.drop 47 = dktX3_layMove_2 := dk_seg dksX3_layMove_1 24 rfl rfl
theorem dksX3_layMove_3 : cX3_layMove.data.toList.drop 71 = dktX3_layMove_3 := dk_seg dksX3_layMove_2 24 rfl rfl
theorem dX3_layMove_0 : decode cX3_layMove 0 = .ok (.aload_n 0, 1) := dk_42 (dk_at dksX3_layMove_0 0 rfl rfl)
theorem dX3_layMove_1 : decode cX3_layMove 1 = .ok (.getfield 19, 3) := dk_180 0 19 (dk_at dksX3_layMove_0 1 rfl rfl)
theorem dX3_layMove_4 : decode cX3_layMove 4 = .ok (.getfield 77, 3) := dk_180 0 77 (dk_at dksX3_layMove_0 4 rfl rfl)
theorem dX3_layMove_7 : decode cX3_layMove 7 = .ok (.iload_n 1, 1) := dk_27 (dk_at dksX3_layMove_0 7 rfl rfl)
theorem dX3_layMove_8 : decode cX3_layMove 8 = .ok (.invokevirtual 48, 3) := dk_182 0 48 (dk_at dksX3_layMove_0 8 rfl rfl)
theorem dX3_layMove_11 : decode cX3_layMove 11 = .ok (.checkcast 80, 3) := dk_192 0 80 (dk_at dksX3_layMove_0 11 rfl rfl)
theorem dX3_layMove_14 : decode cX3_layMove 14 = .ok (.astore_n 3, 1) := dk_78 (dk_at dksX3_layMove_0 14 rfl rfl)
theorem dX3_layMove_15 : decode cX3_layMove 15 = .ok (.new 113, 3) := dk_187 0 113 (dk_at dksX3_layMove_0 15 rfl rfl)
theorem dX3_layMove_18 : decode cX3_layMove 18 = .ok (.dup, 1) := dk_89 (dk_at dksX3_layMove_0 18 rfl rfl)
theorem dX3_layMove_19 : decode cX3_layMove 19 = .ok (.aload_n 0, 1) := dk_42 (dk_at dksX3_layMove_0 19 rfl rfl)
theorem dX3_layMove_20 : decode cX3_layMove 20 = .ok (.getfield 19, 3) := dk_180 0 19 (dk_at dksX3_layMove_0 20 rfl rfl)
theorem dX3_layMove_23 : decode cX3_layMove 23 = .ok (.getfield 37, 3) := dk_180 0 37 (dk_at dksX3_layMove_1 0 rfl rfl)
theorem dX3_layMove_26 : decode cX3_layMove 26 = .ok (.iload_n 2, 1) := dk_28 (dk_at dksX3_layMove_1 3 rfl rfl)
theorem dX3_layMove_27 : decode cX3_layMove 27 = .ok (.invokevirtual 48, 3) := dk_182 0 48 (dk_at dksX3_layMove_1 4 rfl rfl)
theorem dX3_layMove_30 : decode cX3_layMove 30 = .ok (.checkcast 52, 3) := dk_192 0 52 (dk_at dksX3_layMove_1 7 rfl rfl)
theorem dX3_layMove_33 : decode cX3_layMove 33 = .ok (.aload_n 0, 1) := dk_42 (dk_at dksX3_layMove_1 10 rfl rfl)
theorem dX3_layMove_34 : decode cX3_layMove 34 = .ok (.getfield 29, 3) := dk_180 0 29 (dk_at dksX3_layMove_1 11 rfl rfl)
theorem dX3_layMove_37 : decode cX3_layMove 37 = .ok (.iconst 4, 1) := dk_7 (dk_at dksX3_layMove_1 14 rfl rfl)
theorem dX3_layMove_38 : decode cX3_layMove 38 = .ok (.iload_n 1, 1) := dk_27 (dk_at dksX3_layMove_1 15 rfl rfl)
theorem dX3_layMove_39 : decode cX3_layMove 39 = .ok (.imul, 1) := dk_104 (dk_at dksX3_layMove_1 16 rfl rfl)
theorem dX3_layMove_40 : decode cX3_layMove 40 = .ok (.iload_n 2, 1) := dk_28 (dk_at dksX3_layMove_1 17 rfl rfl)
theorem dX3_layMove_41 : decode cX3_layMove 41 = .ok (.iadd, 1) := dk_96 (dk_at dksX3_layMove_1 18 rfl rfl)
theorem dX3_layMove_42 : decode cX3_layMove 42 = .ok (.iaload, 1) := dk_46 (dk_at dksX3_layMove_1 19 rfl rfl)
theorem dX3_layMove_43 : decode cX3_layMove 43 = .ok (.aload_n 3, 1) := dk_45 (dk_at dksX3_layMove_1 20 rfl rfl)
theorem dX3_layMove_44 : decode cX3_layMove 44 = .ok (.getfield 85, 3) := dk_180 0 85 (dk_at dksX3_layMove_1 21 rfl rfl)
theorem dX3_layMove_47 : decode cX3_layMove 47 = .ok (.invokespecial 115, 3) := dk_183 0 115 (dk_at dksX3_layMove_2 0 rfl rfl)
theorem dX3_layMove_50 : decode cX3_layMove 50 = .ok (.astore 4, 2) := dk_58 4 (dk_at dksX3_layMove_2 3 rfl rfl)
theorem dX3_layMove_52 : decode cX3_layMove 52 = .ok (.iconst 1, 1) := dk_4 (dk_at dksX3_layMove_2 5 rfl rfl)
theorem dX3_layMove_53 : decode cX3_layMove 53 = .ok (.istore 5, 2) := dk_54 5 (dk_at dksX3_layMove_2 6 rfl rfl)
theorem dX3_layMove_55 : decode cX3_layMove 55 = .ok (.iload 5, 2) := dk_21 5 (dk_at dksX3_layMove_2 8 rfl rfl)
theorem dX3_layMove_57 : decode cX3_layMove 57 = .ok (.aload_n 3, 1) := dk_45 (dk_at dksX3_layMove_2 10 rfl rfl)
theorem dX3_layMove_58 : decode cX3_layMove 58 = .ok (.getfield 85, 3) := dk_180 0 85 (dk_at dksX3_layMove_2 11 rfl rfl)
theorem dX3_layMove_61 : decode cX3_layMove 61 = .ok (.if_icmp .gt 30, 3) := dk_163 0 30 (dk_at dksX3_layMove_2 14 rfl rfl)
theorem dX3_layMove_64 : decode cX3_layMove 64 = .ok (.aload_n 0, 1) := dk_42 (dk_at dksX3_layMove_2 17 rfl rfl)
theorem dX3_layMove_65 : decode cX3_layMove 65 = .ok (.getfield 34, 3) := dk_180 0 34 (dk_at dksX3_layMove_2 18 rfl rfl)
theorem dX3_layMove_68 : decode cX3_layMove 68 = .ok (.iload_n 2, 1) := dk_28 (dk_at dksX3_layMove_2 21 rfl rfl)
theorem dX3_layMove_69 : decode cX3_layMove 69 = .ok (.aaload, 1) := dk_50 (dk_at dksX3_layMove_2 22 rfl rfl)
theorem dX3_layMove_70 : decode cX3_layMove 70 = .ok (.aload_n 3, 1) := dk_45 (dk_at dksX3_layMove_2 23 rfl rfl)
theorem dX3_layMove_71 : decode cX3_layMove 71 = .ok (.getfield 97, 3) := dk_180 0 97 (dk_at dksX3_layMove_3 0 rfl rfl)
theorem dX3_layMove_74 : decode cX3_layMove 74 = .ok (.iload 5, 2) := dk_21 5 (dk_at dksX3_layMove_3 3 rfl rfl)
theorem dX3_layMove_76 : decode cX3_layMove 76 = .ok (.iadd, 1) := dk_96 (dk_at dksX3_layMove_3 5 rfl rfl)
theorem dX3_layMove_77 : decode cX3_layMove 77 = .ok (.aload 4, 2) := dk_25 4 (dk_at dksX3_layMove_3 6 rfl rfl)
theorem dX3_layMove_79 : decode cX3_layMove 79 = .ok (.iload 5, 2) := dk_21 5 (dk_at dksX3_layMove_3 8 rfl rfl)
theorem dX3_layMove_81 : decode cX3_layMove 81 = .ok (.invokevirtual 118, 3) := dk_182 0 118 (dk_at dksX3_layMove_3 10 rfl rfl)
theorem dX3_layMove_84 : decode cX3_layMove 84 = .ok (.iastore, 1) := dk_79 (dk_at dksX3_layMove_3 13 rfl rfl)
theorem dX3_layMove_85 : decode cX3_layMove 85 = .ok (.iinc 5 1, 3) := dk_132 5 1 (dk_at dksX3_layMove_3 14 rfl rfl)
theorem dX3_layMove_88 : decode cX3_layMove 88 = .ok (.goto (-33), 3) := dk_167 255 223 (dk_at dksX3_layMove_3 17 rfl rfl)
theorem dX3_layMove_91 : decode cX3_layMove 91 = .ok (.return_, 1) := dk_177 (dk_at dksX3_layMove_3 20 rfl rfl)
abbrev cX3_moving : ByteArray := prog_6_method_7_code
def yX3_moving : MethodName := ⟨RX3, "moving", "(I)I"⟩
def dkwX3_moving_1 : List UInt8 := [182, 0, 121, 153, 0, 9, 4, 29, 120, 167, 0, 4, 3, 128, 61, 132, 3, 1, 167, 255, 220, 28, 172]
abbrev dktX3_moving_1 : List UInt8 := dkwX3_moving_1 ++ []
def dkwX3_moving_0 : List UInt8 := [3, 61, 3, 62, 29, 42, 180, 0, 19, 180, 0, 37, 182, 0, 41, 162, 0, 28, 28, 42, 29, 27]
abbrev dktX3_moving_0 : List UInt8 := dkwX3_moving_0 ++ dktX3_moving_1
theorem dksX3_moving_0 : cX3_moving.data.toList.drop 0 = dktX3_moving_0 := by decide +kernel
theorem dksX3_moving_1 : cX3_moving.data.toList.drop 22 = dktX3_moving_1 := dk_seg dksX3_moving_0 22 rfl rfl
theorem dX3_moving_0 : decode cX3_moving 0 = .ok (.iconst 0, 1) := dk_3 (dk_at dksX3_moving_0 0 rfl rfl)
theorem dX3_moving_1 : decode cX3_moving 1 = .ok (.istore_n 2, 1) := dk_61 (dk_at dksX3_moving_0 1 rfl rfl)
theorem dX3_moving_2 : decode cX3_moving 2 = .ok (.iconst 0, 1) := dk_3 (dk_at dksX3_moving_0 2 rfl rfl)
theorem dX3_moving_3 : decode cX3_moving 3 = .ok (.istore_n 3, 1) := dk_62 (dk_at dksX3_moving_0 3 rfl rfl)
theorem dX3_moving_4 : decode cX3_moving 4 = .ok (.iload_n 3, 1) := dk_29 (dk_at dksX3_moving_0 4 rfl rfl)
theorem dX3_moving_5 : decode cX3_moving 5 = .ok (.aload_n 0, 1) := dk_42 (dk_at dksX3_moving_0 5 rfl rfl)
theorem dX3_moving_6 : decode cX3_moving 6 = .ok (.getfield 19, 3) := dk_180 0 19 (dk_at dksX3_moving_0 6 rfl rfl)
theorem dX3_moving_9 : decode cX3_moving 9 = .ok (.getfield 37, 3) := dk_180 0 37 (dk_at dksX3_moving_0 9 rfl rfl)
theorem dX3_moving_12 : decode cX3_moving 12 = .ok (.invokevirtual 41, 3) := dk_182 0 41 (dk_at dksX3_moving_0 12 rfl rfl)
theorem dX3_moving_15 : decode cX3_moving 15 = .ok (.if_icmp .ge 28, 3) := dk_162 0 28 (dk_at dksX3_moving_0 15 rfl rfl)
theorem dX3_moving_18 : decode cX3_moving 18 = .ok (.iload_n 2, 1) := dk_28 (dk_at dksX3_moving_0 18 rfl rfl)
theorem dX3_moving_19 : decode cX3_moving 19 = .ok (.aload_n 0, 1) := dk_42 (dk_at dksX3_moving_0 19 rfl rfl)
theorem dX3_moving_20 : decode cX3_moving 20 = .ok (.iload_n 3, 1) := dk_29 (dk_at dksX3_moving_0 20 rfl rfl)
theorem dX3_moving_21 : decode cX3_moving 21 = .ok (.iload_n 1, 1) := dk_27 (dk_at dksX3_moving_0 21 rfl rfl)
theorem dX3_moving_22 : decode cX3_moving 22 = .ok (.invokevirtual 121, 3) := dk_182 0 121 (dk_at dksX3_moving_1 0 rfl rfl)
theorem dX3_moving_25 : decode cX3_moving 25 = .ok (.ifCond .eq 9, 3) := dk_153 0 9 (dk_at dksX3_moving_1 3 rfl rfl)
theorem dX3_moving_28 : decode cX3_moving 28 = .ok (.iconst 1, 1) := dk_4 (dk_at dksX3_moving_1 6 rfl rfl)
theorem dX3_moving_29 : decode cX3_moving 29 = .ok (.iload_n 3, 1) := dk_29 (dk_at dksX3_moving_1 7 rfl rfl)
theorem dX3_moving_30 : decode cX3_moving 30 = .ok (.ishl, 1) := dk_120 (dk_at dksX3_moving_1 8 rfl rfl)
theorem dX3_moving_31 : decode cX3_moving 31 = .ok (.goto 4, 3) := dk_167 0 4 (dk_at dksX3_moving_1 9 rfl rfl)
theorem dX3_moving_34 : decode cX3_moving 34 = .ok (.iconst 0, 1) := dk_3 (dk_at dksX3_moving_1 12 rfl rfl)
theorem dX3_moving_35 : decode cX3_moving 35 = .ok (.ior, 1) := dk_128 (dk_at dksX3_moving_1 13 rfl rfl)
theorem dX3_moving_36 : decode cX3_moving 36 = .ok (.istore_n 2, 1) := dk_61 (dk_at dksX3_moving_1 14 rfl rfl)
theorem dX3_moving_37 : decode cX3_moving 37 = .ok (.iinc 3 1, 3) := dk_132 3 1 (dk_at dksX3_moving_1 15 rfl rfl)
theorem dX3_moving_40 : decode cX3_moving 40 = .ok (.goto (-36), 3) := dk_167 255 220 (dk_at dksX3_moving_1 18 rfl rfl)
theorem dX3_moving_43 : decode cX3_moving 43 = .ok (.iload_n 2, 1) := dk_28 (dk_at dksX3_moving_1 21 rfl rfl)
theorem dX3_moving_44 : decode cX3_moving 44 = .ok (.ireturn, 1) := dk_172 (dk_at dksX3_moving_1 22 rfl rfl)
abbrev cX3_speed : ByteArray := prog_6_method_6_code
def yX3_speed : MethodName := ⟨RX3, "speed", "(II)I"⟩
def dkwX3_speed_1 : List UInt8 := [100, 46, 100, 172]
abbrev dktX3_speed_1 : List UInt8 := dkwX3_speed_1 ++ []
def dkwX3_speed_0 : List UInt8 := [28, 154, 0, 7, 3, 167, 0, 22, 42, 180, 0, 34, 27, 50, 28, 46, 42, 180, 0, 34, 27, 50, 28, 4]
abbrev dktX3_speed_0 : List UInt8 := dkwX3_speed_0 ++ dktX3_speed_1
theorem dksX3_speed_0 : cX3_speed.data.toList.drop 0 = dktX3_speed_0 := by decide +kernel
theorem dksX3_speed_1 : cX3_speed.data.toList.drop 24 = dktX3_speed_1 := dk_seg dksX3_speed_0 24 rfl rfl
theorem dX3_speed_0 : decode cX3_speed 0 = .ok (.iload_n 2, 1) := dk_28 (dk_at dksX3_speed_0 0 rfl rfl)
theorem dX3_speed_1 : decode cX3_speed 1 = .ok (.ifCond .ne 7, 3) := dk_154 0 7 (dk_at dksX3_speed_0 1 rfl rfl)
theorem dX3_speed_4 : decode cX3_speed 4 = .ok (.iconst 0, 1) := dk_3 (dk_at dksX3_speed_0 4 rfl rfl)
theorem dX3_speed_5 : decode cX3_speed 5 = .ok (.goto 22, 3) := dk_167 0 22 (dk_at dksX3_speed_0 5 rfl rfl)
theorem dX3_speed_8 : decode cX3_speed 8 = .ok (.aload_n 0, 1) := dk_42 (dk_at dksX3_speed_0 8 rfl rfl)
theorem dX3_speed_9 : decode cX3_speed 9 = .ok (.getfield 34, 3) := dk_180 0 34 (dk_at dksX3_speed_0 9 rfl rfl)
theorem dX3_speed_12 : decode cX3_speed 12 = .ok (.iload_n 1, 1) := dk_27 (dk_at dksX3_speed_0 12 rfl rfl)
theorem dX3_speed_13 : decode cX3_speed 13 = .ok (.aaload, 1) := dk_50 (dk_at dksX3_speed_0 13 rfl rfl)
theorem dX3_speed_14 : decode cX3_speed 14 = .ok (.iload_n 2, 1) := dk_28 (dk_at dksX3_speed_0 14 rfl rfl)
theorem dX3_speed_15 : decode cX3_speed 15 = .ok (.iaload, 1) := dk_46 (dk_at dksX3_speed_0 15 rfl rfl)
theorem dX3_speed_16 : decode cX3_speed 16 = .ok (.aload_n 0, 1) := dk_42 (dk_at dksX3_speed_0 16 rfl rfl)
theorem dX3_speed_17 : decode cX3_speed 17 = .ok (.getfield 34, 3) := dk_180 0 34 (dk_at dksX3_speed_0 17 rfl rfl)
theorem dX3_speed_20 : decode cX3_speed 20 = .ok (.iload_n 1, 1) := dk_27 (dk_at dksX3_speed_0 20 rfl rfl)
theorem dX3_speed_21 : decode cX3_speed 21 = .ok (.aaload, 1) := dk_50 (dk_at dksX3_speed_0 21 rfl rfl)
theorem dX3_speed_22 : decode cX3_speed 22 = .ok (.iload_n 2, 1) := dk_28 (dk_at dksX3_speed_0 22 rfl rfl)
theorem dX3_speed_23 : decode cX3_speed 23 = .ok (.iconst 1, 1) := dk_4 (dk_at dksX3_speed_0 23 rfl rfl)
theorem dX3_speed_24 : decode cX3_speed 24 = .ok (.isub, 1) := dk_100 (dk_at dksX3_speed_1 0 rfl rfl)
theorem dX3_speed_25 : decode cX3_speed 25 = .ok (.iaload, 1) := dk_46 (dk_at dksX3_speed_1 1 rfl rfl)
theorem dX3_speed_26 : decode cX3_speed 26 = .ok (.isub, 1) := dk_100 (dk_at dksX3_speed_1 2 rfl rfl)
theorem dX3_speed_27 : decode cX3_speed 27 = .ok (.ireturn, 1) := dk_172 (dk_at dksX3_speed_1 3 rfl rfl)
abbrev cX3_walls : ByteArray := prog_6_method_11_code
def yX3_walls : MethodName := ⟨RX3, "walls", "(I)I"⟩
def dkwX3_walls_1 : List UInt8 := [182, 0, 165, 153, 0, 9, 4, 29, 120, 167, 0, 4, 3, 128, 61, 132, 3, 1, 167, 255, 220, 28, 172]
abbrev dktX3_walls_1 : List UInt8 := dkwX3_walls_1 ++ []
def dkwX3_walls_0 : List UInt8 := [3, 61, 3, 62, 29, 42, 180, 0, 19, 180, 0, 138, 182, 0, 41, 162, 0, 28, 28, 42, 29, 27]
abbrev dktX3_walls_0 : List UInt8 := dkwX3_walls_0 ++ dktX3_walls_1
theorem dksX3_walls_0 : cX3_walls.data.toList.drop 0 = dktX3_walls_0 := by decide +kernel
theorem dksX3_walls_1 : cX3_walls.data.toList.drop 22 = dktX3_walls_1 := dk_seg dksX3_walls_0 22 rfl rfl
theorem dX3_walls_0 : decode cX3_walls 0 = .ok (.iconst 0, 1) := dk_3 (dk_at dksX3_walls_0 0 rfl rfl)
theorem dX3_walls_1 : decode cX3_walls 1 = .ok (.istore_n 2, 1) := dk_61 (dk_at dksX3_walls_0 1 rfl rfl)
theorem dX3_walls_2 : decode cX3_walls 2 = .ok (.iconst 0, 1) := dk_3 (dk_at dksX3_walls_0 2 rfl rfl)
theorem dX3_walls_3 : decode cX3_walls 3 = .ok (.istore_n 3, 1) := dk_62 (dk_at dksX3_walls_0 3 rfl rfl)
theorem dX3_walls_4 : decode cX3_walls 4 = .ok (.iload_n 3, 1) := dk_29 (dk_at dksX3_walls_0 4 rfl rfl)
theorem dX3_walls_5 : decode cX3_walls 5 = .ok (.aload_n 0, 1) := dk_42 (dk_at dksX3_walls_0 5 rfl rfl)
theorem dX3_walls_6 : decode cX3_walls 6 = .ok (.getfield 19, 3) := dk_180 0 19 (dk_at dksX3_walls_0 6 rfl rfl)
theorem dX3_walls_9 : decode cX3_walls 9 = .ok (.getfield 138, 3) := dk_180 0 138 (dk_at dksX3_walls_0 9 rfl rfl)
theorem dX3_walls_12 : decode cX3_walls 12 = .ok (.invokevirtual 41, 3) := dk_182 0 41 (dk_at dksX3_walls_0 12 rfl rfl)
theorem dX3_walls_15 : decode cX3_walls 15 = .ok (.if_icmp .ge 28, 3) := dk_162 0 28 (dk_at dksX3_walls_0 15 rfl rfl)
theorem dX3_walls_18 : decode cX3_walls 18 = .ok (.iload_n 2, 1) := dk_28 (dk_at dksX3_walls_0 18 rfl rfl)
theorem dX3_walls_19 : decode cX3_walls 19 = .ok (.aload_n 0, 1) := dk_42 (dk_at dksX3_walls_0 19 rfl rfl)
theorem dX3_walls_20 : decode cX3_walls 20 = .ok (.iload_n 3, 1) := dk_29 (dk_at dksX3_walls_0 20 rfl rfl)
theorem dX3_walls_21 : decode cX3_walls 21 = .ok (.iload_n 1, 1) := dk_27 (dk_at dksX3_walls_0 21 rfl rfl)
theorem dX3_walls_22 : decode cX3_walls 22 = .ok (.invokevirtual 165, 3) := dk_182 0 165 (dk_at dksX3_walls_1 0 rfl rfl)
theorem dX3_walls_25 : decode cX3_walls 25 = .ok (.ifCond .eq 9, 3) := dk_153 0 9 (dk_at dksX3_walls_1 3 rfl rfl)
theorem dX3_walls_28 : decode cX3_walls 28 = .ok (.iconst 1, 1) := dk_4 (dk_at dksX3_walls_1 6 rfl rfl)
theorem dX3_walls_29 : decode cX3_walls 29 = .ok (.iload_n 3, 1) := dk_29 (dk_at dksX3_walls_1 7 rfl rfl)
theorem dX3_walls_30 : decode cX3_walls 30 = .ok (.ishl, 1) := dk_120 (dk_at dksX3_walls_1 8 rfl rfl)
theorem dX3_walls_31 : decode cX3_walls 31 = .ok (.goto 4, 3) := dk_167 0 4 (dk_at dksX3_walls_1 9 rfl rfl)
theorem dX3_walls_34 : decode cX3_walls 34 = .ok (.iconst 0, 1) := dk_3 (dk_at dksX3_walls_1 12 rfl rfl)
theorem dX3_walls_35 : decode cX3_walls 35 = .ok (.ior, 1) := dk_128 (dk_at dksX3_walls_1 13 rfl rfl)
theorem dX3_walls_36 : decode cX3_walls 36 = .ok (.istore_n 2, 1) := dk_61 (dk_at dksX3_walls_1 14 rfl rfl)
theorem dX3_walls_37 : decode cX3_walls 37 = .ok (.iinc 3 1, 3) := dk_132 3 1 (dk_at dksX3_walls_1 15 rfl rfl)
theorem dX3_walls_40 : decode cX3_walls 40 = .ok (.goto (-36), 3) := dk_167 255 220 (dk_at dksX3_walls_1 18 rfl rfl)
theorem dX3_walls_43 : decode cX3_walls 43 = .ok (.iload_n 2, 1) := dk_28 (dk_at dksX3_walls_1 21 rfl rfl)
theorem dX3_walls_44 : decode cX3_walls 44 = .ok (.ireturn, 1) := dk_172 (dk_at dksX3_walls_1 22 rfl rfl)
abbrev cX3_isInside : ByteArray := prog_6_method_10_code
def yX3_isInside : MethodName := ⟨RX3, "isInside", "(II)Z"⟩
def dkwX3_isInside_3 : List UInt8 := [167, 0, 4, 3, 172]
abbrev dktX3_isInside_3 : List UInt8 := dkwX3_isInside_3 ++ []
def dkwX3_isInside_2 : List UInt8 := [180, 0, 156, 50, 28, 46, 133, 45, 180, 0, 159, 133, 45, 180, 0, 162, 133, 184, 0, 152, 153, 0, 7, 4]
abbrev dktX3_isInside_2 : List UInt8 := dkwX3_isInside_2 ++ dktX3_isInside_3
def dkwX3_isInside_1 : List UInt8 := [28, 46, 133, 45, 180, 0, 146, 133, 45, 180, 0, 149, 133, 184, 0, 152, 153, 0, 35, 42, 180, 0, 34, 45]
abbrev dktX3_isInside_1 : List UInt8 := dkwX3_isInside_1 ++ dktX3_isInside_2
def dkwX3_isInside_0 : List UInt8 := [42, 180, 0, 19, 180, 0, 138, 27, 182, 0, 48, 192, 0, 141, 78, 42, 180, 0, 34, 45, 180, 0, 143, 50]
abbrev dktX3_isInside_0 : List UInt8 := dkwX3_isInside_0 ++ dktX3_isInside_1
theorem dksX3_isInside_0 : cX3_isInside.data.toList.drop 0 = dktX3_isInside_0 := by decide +kernel
theorem dksX3_isInside_1 : cX3_isInside.data.toList.drop 24 = dktX3_isInside_1 := dk_seg dksX3_isInside_0 24 rfl rfl
theorem dksX3_isInside_2 : cX3_isInside.data.toList.drop 48 = dktX3_isInside_2 := dk_seg dksX3_isInside_1 24 rfl rfl
theorem dksX3_isInside_3 : cX3_isInside.data.toList.drop 72 = dktX3_isInside_3 := dk_seg dksX3_isInside_2 24 rfl rfl
theorem dX3_isInside_0 : decode cX3_isInside 0 = .ok (.aload_n 0, 1) := dk_42 (dk_at dksX3_isInside_0 0 rfl rfl)
theorem dX3_isInside_1 : decode cX3_isInside 1 = .ok (.getfield 19, 3) := dk_180 0 19 (dk_at dksX3_isInside_0 1 rfl rfl)
theorem dX3_isInside_4 : decode cX3_isInside 4 = .ok (.getfield 138, 3) := dk_180 0 138 (dk_at dksX3_isInside_0 4 rfl rfl)
theorem dX3_isInside_7 : decode cX3_isInside 7 = .ok (.iload_n 1, 1) := dk_27 (dk_at dksX3_isInside_0 7 rfl rfl)
theorem dX3_isInside_8 : decode cX3_isInside 8 = .ok (.invokevirtual 48, 3) := dk_182 0 48 (dk_at dksX3_isInside_0 8 rfl rfl)
theorem dX3_isInside_11 : decode cX3_isInside 11 = .ok (.checkcast 141, 3) := dk_192 0 141 (dk_at dksX3_isInside_0 11 rfl rfl)
theorem dX3_isInside_14 : decode cX3_isInside 14 = .ok (.astore_n 3, 1) := dk_78 (dk_at dksX3_isInside_0 14 rfl rfl)
theorem dX3_isInside_15 : decode cX3_isInside 15 = .ok (.aload_n 0, 1) := dk_42 (dk_at dksX3_isInside_0 15 rfl rfl)
theorem dX3_isInside_16 : decode cX3_isInside 16 = .ok (.getfield 34, 3) := dk_180 0 34 (dk_at dksX3_isInside_0 16 rfl rfl)
theorem dX3_isInside_19 : decode cX3_isInside 19 = .ok (.aload_n 3, 1) := dk_45 (dk_at dksX3_isInside_0 19 rfl rfl)
theorem dX3_isInside_20 : decode cX3_isInside 20 = .ok (.getfield 143, 3) := dk_180 0 143 (dk_at dksX3_isInside_0 20 rfl rfl)
theorem dX3_isInside_23 : decode cX3_isInside 23 = .ok (.aaload, 1) := dk_50 (dk_at dksX3_isInside_0 23 rfl rfl)
theorem dX3_isInside_24 : decode cX3_isInside 24 = .ok (.iload_n 2, 1) := dk_28 (dk_at dksX3_isInside_1 0 rfl rfl)
theorem dX3_isInside_25 : decode cX3_isInside 25 = .ok (.iaload, 1) := dk_46 (dk_at dksX3_isInside_1 1 rfl rfl)
theorem dX3_isInside_26 : decode cX3_isInside 26 = .ok (.i2l, 1) := dk_133 (dk_at dksX3_isInside_1 2 rfl rfl)
theorem dX3_isInside_27 : decode cX3_isInside 27 = .ok (.aload_n 3, 1) := dk_45 (dk_at dksX3_isInside_1 3 rfl rfl)
theorem dX3_isInside_28 : decode cX3_isInside 28 = .ok (.getfield 146, 3) := dk_180 0 146 (dk_at dksX3_isInside_1 4 rfl rfl)
theorem dX3_isInside_31 : decode cX3_isInside 31 = .ok (.i2l, 1) := dk_133 (dk_at dksX3_isInside_1 7 rfl rfl)
theorem dX3_isInside_32 : decode cX3_isInside 32 = .ok (.aload_n 3, 1) := dk_45 (dk_at dksX3_isInside_1 8 rfl rfl)
theorem dX3_isInside_33 : decode cX3_isInside 33 = .ok (.getfield 149, 3) := dk_180 0 149 (dk_at dksX3_isInside_1 9 rfl rfl)
theorem dX3_isInside_36 : decode cX3_isInside 36 = .ok (.i2l, 1) := dk_133 (dk_at dksX3_isInside_1 12 rfl rfl)
theorem dX3_isInside_37 : decode cX3_isInside 37 = .ok (.invokestatic 152, 3) := dk_184 0 152 (dk_at dksX3_isInside_1 13 rfl rfl)
theorem dX3_isInside_40 : decode cX3_isInside 40 = .ok (.ifCond .eq 35, 3) := dk_153 0 35 (dk_at dksX3_isInside_1 16 rfl rfl)
theorem dX3_isInside_43 : decode cX3_isInside 43 = .ok (.aload_n 0, 1) := dk_42 (dk_at dksX3_isInside_1 19 rfl rfl)
theorem dX3_isInside_44 : decode cX3_isInside 44 = .ok (.getfield 34, 3) := dk_180 0 34 (dk_at dksX3_isInside_1 20 rfl rfl)
theorem dX3_isInside_47 : decode cX3_isInside 47 = .ok (.aload_n 3, 1) := dk_45 (dk_at dksX3_isInside_1 23 rfl rfl)
theorem dX3_isInside_48 : decode cX3_isInside 48 = .ok (.getfield 156, 3) := dk_180 0 156 (dk_at dksX3_isInside_2 0 rfl rfl)
theorem dX3_isInside_51 : decode cX3_isInside 51 = .ok (.aaload, 1) := dk_50 (dk_at dksX3_isInside_2 3 rfl rfl)
theorem dX3_isInside_52 : decode cX3_isInside 52 = .ok (.iload_n 2, 1) := dk_28 (dk_at dksX3_isInside_2 4 rfl rfl)
theorem dX3_isInside_53 : decode cX3_isInside 53 = .ok (.iaload, 1) := dk_46 (dk_at dksX3_isInside_2 5 rfl rfl)
theorem dX3_isInside_54 : decode cX3_isInside 54 = .ok (.i2l, 1) := dk_133 (dk_at dksX3_isInside_2 6 rfl rfl)
theorem dX3_isInside_55 : decode cX3_isInside 55 = .ok (.aload_n 3, 1) := dk_45 (dk_at dksX3_isInside_2 7 rfl rfl)
theorem dX3_isInside_56 : decode cX3_isInside 56 = .ok (.getfield 159, 3) := dk_180 0 159 (dk_at dksX3_isInside_2 8 rfl rfl)
theorem dX3_isInside_59 : decode cX3_isInside 59 = .ok (.i2l, 1) := dk_133 (dk_at dksX3_isInside_2 11 rfl rfl)
theorem dX3_isInside_60 : decode cX3_isInside 60 = .ok (.aload_n 3, 1) := dk_45 (dk_at dksX3_isInside_2 12 rfl rfl)
theorem dX3_isInside_61 : decode cX3_isInside 61 = .ok (.getfield 162, 3) := dk_180 0 162 (dk_at dksX3_isInside_2 13 rfl rfl)
theorem dX3_isInside_64 : decode cX3_isInside 64 = .ok (.i2l, 1) := dk_133 (dk_at dksX3_isInside_2 16 rfl rfl)
theorem dX3_isInside_65 : decode cX3_isInside 65 = .ok (.invokestatic 152, 3) := dk_184 0 152 (dk_at dksX3_isInside_2 17 rfl rfl)
theorem dX3_isInside_68 : decode cX3_isInside 68 = .ok (.ifCond .eq 7, 3) := dk_153 0 7 (dk_at dksX3_isInside_2 20 rfl rfl)
theorem dX3_isInside_71 : decode cX3_isInside 71 = .ok (.iconst 1, 1) := dk_4 (dk_at dksX3_isInside_2 23 rfl rfl)
theorem dX3_isInside_72 : decode cX3_isInside 72 = .ok (.goto 4, 3) := dk_167 0 4 (dk_at dksX3_isInside_3 0 rfl rfl)
theorem dX3_isInside_75 : decode cX3_isInside 75 = .ok (.iconst 0, 1) := dk_3 (dk_at dksX3_isInside_3 3 rfl rfl)
theorem dX3_isInside_76 : decode cX3_isInside 76 = .ok (.ireturn, 1) := dk_172 (dk_at dksX3_isInside_3 4 rfl rfl)
abbrev cX3_travelled : ByteArray := prog_6_method_9_code
def yX3_travelled : MethodName := ⟨RX3, "travelled", "(I)I"⟩
def dkwX3_travelled_0 : List UInt8 := [42, 27, 187, 0, 129, 89, 42, 183, 0, 131, 182, 0, 134, 172]
abbrev dktX3_travelled_0 : List UInt8 := dkwX3_travelled_0 ++ []
theorem dksX3_travelled_0 : cX3_travelled.data.toList.drop 0 = dktX3_travelled_0 := by decide +kernel
theorem dX3_travelled_0 : decode cX3_travelled 0 = .ok (.aload_n 0, 1) := dk_42 (dk_at dksX3_travelled_0 0 rfl rfl)
theorem dX3_travelled_1 : decode cX3_travelled 1 = .ok (.iload_n 1, 1) := dk_27 (dk_at dksX3_travelled_0 1 rfl rfl)
theorem dX3_travelled_2 : decode cX3_travelled 2 = .ok (.new 129, 3) := dk_187 0 129 (dk_at dksX3_travelled_0 2 rfl rfl)
theorem dX3_travelled_5 : decode cX3_travelled 5 = .ok (.dup, 1) := dk_89 (dk_at dksX3_travelled_0 5 rfl rfl)
theorem dX3_travelled_6 : decode cX3_travelled 6 = .ok (.aload_n 0, 1) := dk_42 (dk_at dksX3_travelled_0 6 rfl rfl)
theorem dX3_travelled_7 : decode cX3_travelled 7 = .ok (.invokespecial 131, 3) := dk_183 0 131 (dk_at dksX3_travelled_0 7 rfl rfl)
theorem dX3_travelled_10 : decode cX3_travelled 10 = .ok (.invokevirtual 134, 3) := dk_182 0 134 (dk_at dksX3_travelled_0 10 rfl rfl)
theorem dX3_travelled_13 : decode cX3_travelled 13 = .ok (.ireturn, 1) := dk_172 (dk_at dksX3_travelled_0 13 rfl rfl)
abbrev cX3_measure : ByteArray := prog_6_method_8_code
def yX3_measure : MethodName := ⟨RX3, "measure", "(ILCameraMoves$Measure;)I"⟩
def dkwX3_measure_1 : List UInt8 := [182, 0, 124, 62, 132, 4, 1, 167, 255, 232, 29, 172]
abbrev dktX3_measure_1 : List UInt8 := dkwX3_measure_1 ++ []
def dkwX3_measure_0 : List UInt8 := [3, 62, 4, 54, 4, 21, 4, 17, 3, 231, 163, 0, 22, 44, 29, 42, 27, 21, 4, 182, 0, 121]
abbrev dktX3_measure_0 : List UInt8 := dkwX3_measure_0 ++ dktX3_measure_1
theorem dksX3_measure_0 : cX3_measure.data.toList.drop 0 = dktX3_measure_0 := by decide +kernel
theorem dksX3_measure_1 : cX3_measure.data.toList.drop 22 = dktX3_measure_1 := dk_seg dksX3_measure_0 22 rfl rfl
theorem dX3_measure_0 : decode cX3_measure 0 = .ok (.iconst 0, 1) := dk_3 (dk_at dksX3_measure_0 0 rfl rfl)
theorem dX3_measure_1 : decode cX3_measure 1 = .ok (.istore_n 3, 1) := dk_62 (dk_at dksX3_measure_0 1 rfl rfl)
theorem dX3_measure_2 : decode cX3_measure 2 = .ok (.iconst 1, 1) := dk_4 (dk_at dksX3_measure_0 2 rfl rfl)
theorem dX3_measure_3 : decode cX3_measure 3 = .ok (.istore 4, 2) := dk_54 4 (dk_at dksX3_measure_0 3 rfl rfl)
theorem dX3_measure_5 : decode cX3_measure 5 = .ok (.iload 4, 2) := dk_21 4 (dk_at dksX3_measure_0 5 rfl rfl)
theorem dX3_measure_7 : decode cX3_measure 7 = .ok (.sipush 999, 3) := dk_17 3 231 (dk_at dksX3_measure_0 7 rfl rfl)
theorem dX3_measure_10 : decode cX3_measure 10 = .ok (.if_icmp .gt 22, 3) := dk_163 0 22 (dk_at dksX3_measure_0 10 rfl rfl)
theorem dX3_measure_13 : decode cX3_measure 13 = .ok (.aload_n 2, 1) := dk_44 (dk_at dksX3_measure_0 13 rfl rfl)
theorem dX3_measure_14 : decode cX3_measure 14 = .ok (.iload_n 3, 1) := dk_29 (dk_at dksX3_measure_0 14 rfl rfl)
theorem dX3_measure_15 : decode cX3_measure 15 = .ok (.aload_n 0, 1) := dk_42 (dk_at dksX3_measure_0 15 rfl rfl)
theorem dX3_measure_16 : decode cX3_measure 16 = .ok (.iload_n 1, 1) := dk_27 (dk_at dksX3_measure_0 16 rfl rfl)
theorem dX3_measure_17 : decode cX3_measure 17 = .ok (.iload 4, 2) := dk_21 4 (dk_at dksX3_measure_0 17 rfl rfl)
theorem dX3_measure_19 : decode cX3_measure 19 = .ok (.invokevirtual 121, 3) := dk_182 0 121 (dk_at dksX3_measure_0 19 rfl rfl)
theorem dX3_measure_22 : decode cX3_measure 22 = .ok (.invokevirtual 124, 3) := dk_182 0 124 (dk_at dksX3_measure_1 0 rfl rfl)
theorem dX3_measure_25 : decode cX3_measure 25 = .ok (.istore_n 3, 1) := dk_62 (dk_at dksX3_measure_1 3 rfl rfl)
theorem dX3_measure_26 : decode cX3_measure 26 = .ok (.iinc 4 1, 3) := dk_132 4 1 (dk_at dksX3_measure_1 4 rfl rfl)
theorem dX3_measure_29 : decode cX3_measure 29 = .ok (.goto (-24), 3) := dk_167 255 232 (dk_at dksX3_measure_1 7 rfl rfl)
theorem dX3_measure_32 : decode cX3_measure 32 = .ok (.iload_n 3, 1) := dk_29 (dk_at dksX3_measure_1 10 rfl rfl)
theorem dX3_measure_33 : decode cX3_measure 33 = .ok (.ireturn, 1) := dk_172 (dk_at dksX3_measure_1 11 rfl rfl)
abbrev cX3_fits : ByteArray := prog_6_method_15_code
def yX3_fits : MethodName := ⟨RX3, "fits", "(LCameraMoves$Pass;)Z"⟩
def dkwX3_fits_3 : List UInt8 := [180, 0, 178, 164, 0, 5, 3, 172, 132, 3, 1, 167, 255, 194, 132, 2, 1, 167, 255, 172, 4, 172]
abbrev dktX3_fits_3 : List UInt8 := dkwX3_fits_3 ++ []
def dkwX3_fits_2 : List UInt8 := [100, 182, 0, 173, 46, 100, 184, 0, 92, 42, 180, 0, 19, 180, 0, 37, 28, 182, 0, 48, 192, 0, 52]
abbrev dktX3_fits_2 : List UInt8 := dkwX3_fits_2 ++ dktX3_fits_3
def dkwX3_fits_1 : List UInt8 := [163, 0, 61, 42, 180, 0, 34, 28, 50, 43, 29, 182, 0, 173, 46, 42, 180, 0, 34, 28, 50, 43, 29, 4]
abbrev dktX3_fits_1 : List UInt8 := dkwX3_fits_1 ++ dktX3_fits_2
def dkwX3_fits_0 : List UInt8 := [3, 61, 28, 42, 180, 0, 19, 180, 0, 37, 182, 0, 41, 162, 0, 76, 4, 62, 29, 17, 3, 231]
abbrev dktX3_fits_0 : List UInt8 := dkwX3_fits_0 ++ dktX3_fits_1
theorem dksX3_fits_0 : cX3_fits.data.toList.drop 0 = dktX3_fits_0 := by decide +kernel
theorem dksX3_fits_1 : cX3_fits.data.toList.drop 22 = dktX3_fits_1 := dk_seg dksX3_fits_0 22 rfl rfl
theorem dksX3_fits_2 : cX3_fits.data.toList.drop 46 = dktX3_fits_2 := dk_seg dksX3_fits_1 24 rfl rfl
theorem dksX3_fits_3 : cX3_fits.data.toList.drop 69 = dktX3_fits_3 := dk_seg dksX3_fits_2 23 rfl rfl
theorem dX3_fits_0 : decode cX3_fits 0 = .ok (.iconst 0, 1) := dk_3 (dk_at dksX3_fits_0 0 rfl rfl)
theorem dX3_fits_1 : decode cX3_fits 1 = .ok (.istore_n 2, 1) := dk_61 (dk_at dksX3_fits_0 1 rfl rfl)
theorem dX3_fits_2 : decode cX3_fits 2 = .ok (.iload_n 2, 1) := dk_28 (dk_at dksX3_fits_0 2 rfl rfl)
theorem dX3_fits_3 : decode cX3_fits 3 = .ok (.aload_n 0, 1) := dk_42 (dk_at dksX3_fits_0 3 rfl rfl)
theorem dX3_fits_4 : decode cX3_fits 4 = .ok (.getfield 19, 3) := dk_180 0 19 (dk_at dksX3_fits_0 4 rfl rfl)
theorem dX3_fits_7 : decode cX3_fits 7 = .ok (.getfield 37, 3) := dk_180 0 37 (dk_at dksX3_fits_0 7 rfl rfl)
theorem dX3_fits_10 : decode cX3_fits 10 = .ok (.invokevirtual 41, 3) := dk_182 0 41 (dk_at dksX3_fits_0 10 rfl rfl)
theorem dX3_fits_13 : decode cX3_fits 13 = .ok (.if_icmp .ge 76, 3) := dk_162 0 76 (dk_at dksX3_fits_0 13 rfl rfl)
theorem dX3_fits_16 : decode cX3_fits 16 = .ok (.iconst 1, 1) := dk_4 (dk_at dksX3_fits_0 16 rfl rfl)
theorem dX3_fits_17 : decode cX3_fits 17 = .ok (.istore_n 3, 1) := dk_62 (dk_at dksX3_fits_0 17 rfl rfl)
theorem dX3_fits_18 : decode cX3_fits 18 = .ok (.iload_n 3, 1) := dk_29 (dk_at dksX3_fits_0 18 rfl rfl)
theorem dX3_fits_19 : decode cX3_fits 19 = .ok (.sipush 999, 3) := dk_17 3 231 (dk_at dksX3_fits_0 19 rfl rfl)
theorem dX3_fits_22 : decode cX3_fits 22 = .ok (.if_icmp .gt 61, 3) := dk_163 0 61 (dk_at dksX3_fits_1 0 rfl rfl)
theorem dX3_fits_25 : decode cX3_fits 25 = .ok (.aload_n 0, 1) := dk_42 (dk_at dksX3_fits_1 3 rfl rfl)
theorem dX3_fits_26 : decode cX3_fits 26 = .ok (.getfield 34, 3) := dk_180 0 34 (dk_at dksX3_fits_1 4 rfl rfl)
theorem dX3_fits_29 : decode cX3_fits 29 = .ok (.iload_n 2, 1) := dk_28 (dk_at dksX3_fits_1 7 rfl rfl)
theorem dX3_fits_30 : decode cX3_fits 30 = .ok (.aaload, 1) := dk_50 (dk_at dksX3_fits_1 8 rfl rfl)
theorem dX3_fits_31 : decode cX3_fits 31 = .ok (.aload_n 1, 1) := dk_43 (dk_at dksX3_fits_1 9 rfl rfl)
theorem dX3_fits_32 : decode cX3_fits 32 = .ok (.iload_n 3, 1) := dk_29 (dk_at dksX3_fits_1 10 rfl rfl)
theorem dX3_fits_33 : decode cX3_fits 33 = .ok (.invokevirtual 173, 3) := dk_182 0 173 (dk_at dksX3_fits_1 11 rfl rfl)
theorem dX3_fits_36 : decode cX3_fits 36 = .ok (.iaload, 1) := dk_46 (dk_at dksX3_fits_1 14 rfl rfl)
theorem dX3_fits_37 : decode cX3_fits 37 = .ok (.aload_n 0, 1) := dk_42 (dk_at dksX3_fits_1 15 rfl rfl)
theorem dX3_fits_38 : decode cX3_fits 38 = .ok (.getfield 34, 3) := dk_180 0 34 (dk_at dksX3_fits_1 16 rfl rfl)
theorem dX3_fits_41 : decode cX3_fits 41 = .ok (.iload_n 2, 1) := dk_28 (dk_at dksX3_fits_1 19 rfl rfl)
theorem dX3_fits_42 : decode cX3_fits 42 = .ok (.aaload, 1) := dk_50 (dk_at dksX3_fits_1 20 rfl rfl)
theorem dX3_fits_43 : decode cX3_fits 43 = .ok (.aload_n 1, 1) := dk_43 (dk_at dksX3_fits_1 21 rfl rfl)
theorem dX3_fits_44 : decode cX3_fits 44 = .ok (.iload_n 3, 1) := dk_29 (dk_at dksX3_fits_1 22 rfl rfl)
theorem dX3_fits_45 : decode cX3_fits 45 = .ok (.iconst 1, 1) := dk_4 (dk_at dksX3_fits_1 23 rfl rfl)
theorem dX3_fits_46 : decode cX3_fits 46 = .ok (.isub, 1) := dk_100 (dk_at dksX3_fits_2 0 rfl rfl)
theorem dX3_fits_47 : decode cX3_fits 47 = .ok (.invokevirtual 173, 3) := dk_182 0 173 (dk_at dksX3_fits_2 1 rfl rfl)
theorem dX3_fits_50 : decode cX3_fits 50 = .ok (.iaload, 1) := dk_46 (dk_at dksX3_fits_2 4 rfl rfl)
theorem dX3_fits_51 : decode cX3_fits 51 = .ok (.isub, 1) := dk_100 (dk_at dksX3_fits_2 5 rfl rfl)
theorem dX3_fits_52 : decode cX3_fits 52 = .ok (.invokestatic 92, 3) := dk_184 0 92 (dk_at dksX3_fits_2 6 rfl rfl)
theorem dX3_fits_55 : decode cX3_fits 55 = .ok (.aload_n 0, 1) := dk_42 (dk_at dksX3_fits_2 9 rfl rfl)
theorem dX3_fits_56 : decode cX3_fits 56 = .ok (.getfield 19, 3) := dk_180 0 19 (dk_at dksX3_fits_2 10 rfl rfl)
theorem dX3_fits_59 : decode cX3_fits 59 = .ok (.getfield 37, 3) := dk_180 0 37 (dk_at dksX3_fits_2 13 rfl rfl)
theorem dX3_fits_62 : decode cX3_fits 62 = .ok (.iload_n 2, 1) := dk_28 (dk_at dksX3_fits_2 16 rfl rfl)
theorem dX3_fits_63 : decode cX3_fits 63 = .ok (.invokevirtual 48, 3) := dk_182 0 48 (dk_at dksX3_fits_2 17 rfl rfl)
theorem dX3_fits_66 : decode cX3_fits 66 = .ok (.checkcast 52, 3) := dk_192 0 52 (dk_at dksX3_fits_2 20 rfl rfl)
theorem dX3_fits_69 : decode cX3_fits 69 = .ok (.getfield 178, 3) := dk_180 0 178 (dk_at dksX3_fits_3 0 rfl rfl)
theorem dX3_fits_72 : decode cX3_fits 72 = .ok (.if_icmp .le 5, 3) := dk_164 0 5 (dk_at dksX3_fits_3 3 rfl rfl)
theorem dX3_fits_75 : decode cX3_fits 75 = .ok (.iconst 0, 1) := dk_3 (dk_at dksX3_fits_3 6 rfl rfl)
theorem dX3_fits_76 : decode cX3_fits 76 = .ok (.ireturn, 1) := dk_172 (dk_at dksX3_fits_3 7 rfl rfl)
theorem dX3_fits_77 : decode cX3_fits 77 = .ok (.iinc 3 1, 3) := dk_132 3 1 (dk_at dksX3_fits_3 8 rfl rfl)
theorem dX3_fits_80 : decode cX3_fits 80 = .ok (.goto (-62), 3) := dk_167 255 194 (dk_at dksX3_fits_3 11 rfl rfl)
theorem dX3_fits_83 : decode cX3_fits 83 = .ok (.iinc 2 1, 3) := dk_132 2 1 (dk_at dksX3_fits_3 14 rfl rfl)
theorem dX3_fits_86 : decode cX3_fits 86 = .ok (.goto (-84), 3) := dk_167 255 172 (dk_at dksX3_fits_3 17 rfl rfl)
theorem dX3_fits_89 : decode cX3_fits 89 = .ok (.iconst 1, 1) := dk_4 (dk_at dksX3_fits_3 20 rfl rfl)
theorem dX3_fits_90 : decode cX3_fits 90 = .ok (.ireturn, 1) := dk_172 (dk_at dksX3_fits_3 21 rfl rfl)
abbrev cX3_isMatch : ByteArray := prog_6_method_16_code
def yX3_isMatch : MethodName := ⟨RX3, "isMatch", "(LCameraMoves$Pass;LCameraMoves$Pass;I)Z"⟩
def dkwX3_isMatch_2 : List UInt8 := [46, 160, 0, 7, 4, 167, 0, 4, 3, 126, 54, 4, 132, 5, 1, 167, 255, 199, 21, 4, 172]
abbrev dktX3_isMatch_2 : List UInt8 := dkwX3_isMatch_2 ++ []
def dkwX3_isMatch_1 : List UInt8 := [180, 0, 34, 21, 5, 50, 43, 29, 182, 0, 173, 46, 42, 180, 0, 34, 21, 5, 50, 44, 29, 182, 0, 173]
abbrev dktX3_isMatch_1 : List UInt8 := dkwX3_isMatch_1 ++ dktX3_isMatch_2
def dkwX3_isMatch_0 : List UInt8 := [4, 54, 4, 3, 54, 5, 21, 5, 42, 180, 0, 19, 180, 0, 37, 182, 0, 41, 162, 0, 48, 21, 4, 42]
abbrev dktX3_isMatch_0 : List UInt8 := dkwX3_isMatch_0 ++ dktX3_isMatch_1
theorem dksX3_isMatch_0 : cX3_isMatch.data.toList.drop 0 = dktX3_isMatch_0 := by decide +kernel
theorem dksX3_isMatch_1 : cX3_isMatch.data.toList.drop 24 = dktX3_isMatch_1 := dk_seg dksX3_isMatch_0 24 rfl rfl
theorem dksX3_isMatch_2 : cX3_isMatch.data.toList.drop 48 = dktX3_isMatch_2 := dk_seg dksX3_isMatch_1 24 rfl rfl
theorem dX3_isMatch_0 : decode cX3_isMatch 0 = .ok (.iconst 1, 1) := dk_4 (dk_at dksX3_isMatch_0 0 rfl rfl)
theorem dX3_isMatch_1 : decode cX3_isMatch 1 = .ok (.istore 4, 2) := dk_54 4 (dk_at dksX3_isMatch_0 1 rfl rfl)
theorem dX3_isMatch_3 : decode cX3_isMatch 3 = .ok (.iconst 0, 1) := dk_3 (dk_at dksX3_isMatch_0 3 rfl rfl)
theorem dX3_isMatch_4 : decode cX3_isMatch 4 = .ok (.istore 5, 2) := dk_54 5 (dk_at dksX3_isMatch_0 4 rfl rfl)
theorem dX3_isMatch_6 : decode cX3_isMatch 6 = .ok (.iload 5, 2) := dk_21 5 (dk_at dksX3_isMatch_0 6 rfl rfl)
theorem dX3_isMatch_8 : decode cX3_isMatch 8 = .ok (.aload_n 0, 1) := dk_42 (dk_at dksX3_isMatch_0 8 rfl rfl)
theorem dX3_isMatch_9 : decode cX3_isMatch 9 = .ok (.getfield 19, 3) := dk_180 0 19 (dk_at dksX3_isMatch_0 9 rfl rfl)
theorem dX3_isMatch_12 : decode cX3_isMatch 12 = .ok (.getfield 37, 3) := dk_180 0 37 (dk_at dksX3_isMatch_0 12 rfl rfl)
theorem dX3_isMatch_15 : decode cX3_isMatch 15 = .ok (.invokevirtual 41, 3) := dk_182 0 41 (dk_at dksX3_isMatch_0 15 rfl rfl)
theorem dX3_isMatch_18 : decode cX3_isMatch 18 = .ok (.if_icmp .ge 48, 3) := dk_162 0 48 (dk_at dksX3_isMatch_0 18 rfl rfl)
theorem dX3_isMatch_21 : decode cX3_isMatch 21 = .ok (.iload 4, 2) := dk_21 4 (dk_at dksX3_isMatch_0 21 rfl rfl)
theorem dX3_isMatch_23 : decode cX3_isMatch 23 = .ok (.aload_n 0, 1) := dk_42 (dk_at dksX3_isMatch_0 23 rfl rfl)
theorem dX3_isMatch_24 : decode cX3_isMatch 24 = .ok (.getfield 34, 3) := dk_180 0 34 (dk_at dksX3_isMatch_1 0 rfl rfl)
theorem dX3_isMatch_27 : decode cX3_isMatch 27 = .ok (.iload 5, 2) := dk_21 5 (dk_at dksX3_isMatch_1 3 rfl rfl)
theorem dX3_isMatch_29 : decode cX3_isMatch 29 = .ok (.aaload, 1) := dk_50 (dk_at dksX3_isMatch_1 5 rfl rfl)
theorem dX3_isMatch_30 : decode cX3_isMatch 30 = .ok (.aload_n 1, 1) := dk_43 (dk_at dksX3_isMatch_1 6 rfl rfl)
theorem dX3_isMatch_31 : decode cX3_isMatch 31 = .ok (.iload_n 3, 1) := dk_29 (dk_at dksX3_isMatch_1 7 rfl rfl)
theorem dX3_isMatch_32 : decode cX3_isMatch 32 = .ok (.invokevirtual 173, 3) := dk_182 0 173 (dk_at dksX3_isMatch_1 8 rfl rfl)
theorem dX3_isMatch_35 : decode cX3_isMatch 35 = .ok (.iaload, 1) := dk_46 (dk_at dksX3_isMatch_1 11 rfl rfl)
theorem dX3_isMatch_36 : decode cX3_isMatch 36 = .ok (.aload_n 0, 1) := dk_42 (dk_at dksX3_isMatch_1 12 rfl rfl)
theorem dX3_isMatch_37 : decode cX3_isMatch 37 = .ok (.getfield 34, 3) := dk_180 0 34 (dk_at dksX3_isMatch_1 13 rfl rfl)
theorem dX3_isMatch_40 : decode cX3_isMatch 40 = .ok (.iload 5, 2) := dk_21 5 (dk_at dksX3_isMatch_1 16 rfl rfl)
theorem dX3_isMatch_42 : decode cX3_isMatch 42 = .ok (.aaload, 1) := dk_50 (dk_at dksX3_isMatch_1 18 rfl rfl)
theorem dX3_isMatch_43 : decode cX3_isMatch 43 = .ok (.aload_n 2, 1) := dk_44 (dk_at dksX3_isMatch_1 19 rfl rfl)
theorem dX3_isMatch_44 : decode cX3_isMatch 44 = .ok (.iload_n 3, 1) := dk_29 (dk_at dksX3_isMatch_1 20 rfl rfl)
theorem dX3_isMatch_45 : decode cX3_isMatch 45 = .ok (.invokevirtual 173, 3) := dk_182 0 173 (dk_at dksX3_isMatch_1 21 rfl rfl)
theorem dX3_isMatch_48 : decode cX3_isMatch 48 = .ok (.iaload, 1) := dk_46 (dk_at dksX3_isMatch_2 0 rfl rfl)
theorem dX3_isMatch_49 : decode cX3_isMatch 49 = .ok (.if_icmp .ne 7, 3) := dk_160 0 7 (dk_at dksX3_isMatch_2 1 rfl rfl)
theorem dX3_isMatch_52 : decode cX3_isMatch 52 = .ok (.iconst 1, 1) := dk_4 (dk_at dksX3_isMatch_2 4 rfl rfl)
theorem dX3_isMatch_53 : decode cX3_isMatch 53 = .ok (.goto 4, 3) := dk_167 0 4 (dk_at dksX3_isMatch_2 5 rfl rfl)
theorem dX3_isMatch_56 : decode cX3_isMatch 56 = .ok (.iconst 0, 1) := dk_3 (dk_at dksX3_isMatch_2 8 rfl rfl)
theorem dX3_isMatch_57 : decode cX3_isMatch 57 = .ok (.iand, 1) := dk_126 (dk_at dksX3_isMatch_2 9 rfl rfl)
theorem dX3_isMatch_58 : decode cX3_isMatch 58 = .ok (.istore 4, 2) := dk_54 4 (dk_at dksX3_isMatch_2 10 rfl rfl)
theorem dX3_isMatch_60 : decode cX3_isMatch 60 = .ok (.iinc 5 1, 3) := dk_132 5 1 (dk_at dksX3_isMatch_2 12 rfl rfl)
theorem dX3_isMatch_63 : decode cX3_isMatch 63 = .ok (.goto (-57), 3) := dk_167 255 199 (dk_at dksX3_isMatch_2 15 rfl rfl)
theorem dX3_isMatch_66 : decode cX3_isMatch 66 = .ok (.iload 4, 2) := dk_21 4 (dk_at dksX3_isMatch_2 18 rfl rfl)
theorem dX3_isMatch_68 : decode cX3_isMatch 68 = .ok (.ireturn, 1) := dk_172 (dk_at dksX3_isMatch_2 20 rfl rfl)
abbrev cX3_hits : ByteArray := prog_6_method_12_code
def yX3_hits : MethodName := ⟨RX3, "hits", "()I"⟩
def dkwX3_hits_1 : List UInt8 := [3, 96, 60, 132, 2, 1, 167, 255, 230, 27, 172]
abbrev dktX3_hits_1 : List UInt8 := dkwX3_hits_1 ++ []
def dkwX3_hits_0 : List UInt8 := [3, 60, 3, 61, 28, 17, 3, 231, 163, 0, 25, 27, 42, 28, 182, 0, 168, 153, 0, 7, 4, 167, 0, 4]
abbrev dktX3_hits_0 : List UInt8 := dkwX3_hits_0 ++ dktX3_hits_1
theorem dksX3_hits_0 : cX3_hits.data.toList.drop 0 = dktX3_hits_0 := by decide +kernel
theorem dksX3_hits_1 : cX3_hits.data.toList.drop 24 = dktX3_hits_1 := dk_seg dksX3_hits_0 24 rfl rfl
theorem dX3_hits_0 : decode cX3_hits 0 = .ok (.iconst 0, 1) := dk_3 (dk_at dksX3_hits_0 0 rfl rfl)
theorem dX3_hits_1 : decode cX3_hits 1 = .ok (.istore_n 1, 1) := dk_60 (dk_at dksX3_hits_0 1 rfl rfl)
theorem dX3_hits_2 : decode cX3_hits 2 = .ok (.iconst 0, 1) := dk_3 (dk_at dksX3_hits_0 2 rfl rfl)
theorem dX3_hits_3 : decode cX3_hits 3 = .ok (.istore_n 2, 1) := dk_61 (dk_at dksX3_hits_0 3 rfl rfl)
theorem dX3_hits_4 : decode cX3_hits 4 = .ok (.iload_n 2, 1) := dk_28 (dk_at dksX3_hits_0 4 rfl rfl)
theorem dX3_hits_5 : decode cX3_hits 5 = .ok (.sipush 999, 3) := dk_17 3 231 (dk_at dksX3_hits_0 5 rfl rfl)
theorem dX3_hits_8 : decode cX3_hits 8 = .ok (.if_icmp .gt 25, 3) := dk_163 0 25 (dk_at dksX3_hits_0 8 rfl rfl)
theorem dX3_hits_11 : decode cX3_hits 11 = .ok (.iload_n 1, 1) := dk_27 (dk_at dksX3_hits_0 11 rfl rfl)
theorem dX3_hits_12 : decode cX3_hits 12 = .ok (.aload_n 0, 1) := dk_42 (dk_at dksX3_hits_0 12 rfl rfl)
theorem dX3_hits_13 : decode cX3_hits 13 = .ok (.iload_n 2, 1) := dk_28 (dk_at dksX3_hits_0 13 rfl rfl)
theorem dX3_hits_14 : decode cX3_hits 14 = .ok (.invokevirtual 168, 3) := dk_182 0 168 (dk_at dksX3_hits_0 14 rfl rfl)
theorem dX3_hits_17 : decode cX3_hits 17 = .ok (.ifCond .eq 7, 3) := dk_153 0 7 (dk_at dksX3_hits_0 17 rfl rfl)
theorem dX3_hits_20 : decode cX3_hits 20 = .ok (.iconst 1, 1) := dk_4 (dk_at dksX3_hits_0 20 rfl rfl)
theorem dX3_hits_21 : decode cX3_hits 21 = .ok (.goto 4, 3) := dk_167 0 4 (dk_at dksX3_hits_0 21 rfl rfl)
theorem dX3_hits_24 : decode cX3_hits 24 = .ok (.iconst 0, 1) := dk_3 (dk_at dksX3_hits_1 0 rfl rfl)
theorem dX3_hits_25 : decode cX3_hits 25 = .ok (.iadd, 1) := dk_96 (dk_at dksX3_hits_1 1 rfl rfl)
theorem dX3_hits_26 : decode cX3_hits 26 = .ok (.istore_n 1, 1) := dk_60 (dk_at dksX3_hits_1 2 rfl rfl)
theorem dX3_hits_27 : decode cX3_hits 27 = .ok (.iinc 2 1, 3) := dk_132 2 1 (dk_at dksX3_hits_1 3 rfl rfl)
theorem dX3_hits_30 : decode cX3_hits 30 = .ok (.goto (-26), 3) := dk_167 255 230 (dk_at dksX3_hits_1 6 rfl rfl)
theorem dX3_hits_33 : decode cX3_hits 33 = .ok (.iload_n 1, 1) := dk_27 (dk_at dksX3_hits_1 9 rfl rfl)
theorem dX3_hits_34 : decode cX3_hits 34 = .ok (.ireturn, 1) := dk_172 (dk_at dksX3_hits_1 10 rfl rfl)
theorem q129 : (Jvm.Cond.initialized "CameraMoves$Film") ∈ lw_all := lw_g (lw_at lw_m1 22 rfl) rfl
theorem q519 : (Jvm.Cond.fieldLinkNest "CameraMoves$Film" (37 : Nat) "CameraMoves$Plan" "axes" "Ljava/util/ArrayList;" "CameraMoves") ∈ lw_tbl := lw_at lw_m2 172 rfl
theorem q524 : (Jvm.Cond.fieldLinkNest "CameraMoves$Film" (77 : Nat) "CameraMoves$Plan" "cues" "Ljava/util/ArrayList;" "CameraMoves") ∈ lw_tbl := lw_at lw_m2 177 rfl
theorem q528 : (Jvm.Cond.fieldLinkNest "CameraMoves$Film" (138 : Nat) "CameraMoves$Plan" "walls" "Ljava/util/ArrayList;" "CameraMoves") ∈ lw_tbl := lw_at lw_m2 181 rfl
theorem q544 : (Jvm.Cond.instantiable "CameraMoves$Film" (4 : Nat)) ∈ lw_all := lw_g (lw_at lw_m2 197 rfl) rfl
theorem q546 : (Jvm.Cond.instanceMethod ({ cls := "CameraMoves$Film", name := "<init>", desc := "()V" } : Jvm.MethodName)) ∈ lw_all := lw_g (lw_at lw_m2 199 rfl) rfl
theorem q547 : (Jvm.Cond.code ({ cls := "CameraMoves$Film", name := "<init>", desc := "()V" } : Jvm.MethodName) prog_6_method_1_code (1 : Nat) (Option.none : Option Jvm.ClassFile.FieldType)) ∈ lw_all := lw_g (lw_at lw_m2 200 rfl) rfl
theorem q548 : (Jvm.Cond.methodLink "CameraMoves$Film" (3 : Nat) ({ cls := "java/lang/Object", name := "<init>", desc := "()V" } : Jvm.MethodName)) ∈ lw_all := lw_g (lw_at lw_m2 201 rfl) rfl
theorem q549 : (Jvm.Cond.classLink "CameraMoves$Film" (9 : Nat) "CameraMoves$Plan") ∈ lw_all := lw_g (lw_at lw_m2 202 rfl) rfl
theorem q550 : (Jvm.Cond.classLink "CameraMoves$Film" (11 : Nat) "java/util/ArrayList") ∈ lw_all := lw_g (lw_at lw_m2 203 rfl) rfl
theorem q551 : (Jvm.Cond.methodLink "CameraMoves$Film" (13 : Nat) ({ cls := "java/util/ArrayList", name := "<init>", desc := "(I)V" } : Jvm.MethodName)) ∈ lw_all := lw_g (lw_at lw_m2 204 rfl) rfl
theorem q552 : (Jvm.Cond.methodLink "CameraMoves$Film" (16 : Nat) ({ cls := "CameraMoves$Plan", name := "<init>", desc := "(Ljava/util/ArrayList;)V" } : Jvm.MethodName)) ∈ lw_all := lw_g (lw_at lw_m2 205 rfl) rfl
theorem q553 : (Jvm.Cond.classLink "CameraMoves$Film" (32 : Nat) "[[I") ∈ lw_all := lw_g (lw_at lw_m2 206 rfl) rfl
theorem q555 : (Jvm.Cond.fieldLink "CameraMoves$Film" (19 : Nat) "CameraMoves$Film" "plan" "LCameraMoves$Plan;") ∈ lw_all := lw_g (lw_at lw_m2 208 rfl) rfl
theorem q556 : (Jvm.Cond.fieldLink "CameraMoves$Film" (25 : Nat) "CameraMoves$Film" "status" "[I") ∈ lw_all := lw_g (lw_at lw_m2 209 rfl) rfl
theorem q558 : (Jvm.Cond.fieldLink "CameraMoves$Film" (29 : Nat) "CameraMoves$Film" "distance" "[I") ∈ lw_all := lw_g (lw_at lw_m2 211 rfl) rfl
theorem q560 : (Jvm.Cond.fieldLink "CameraMoves$Film" (34 : Nat) "CameraMoves$Film" "at" "[[I") ∈ lw_all := lw_g (lw_at lw_m2 213 rfl) rfl
theorem q562 : (Jvm.Cond.lays "CameraMoves$Film" "CameraMoves$Film" "plan" "LCameraMoves$Plan;") ∈ lw_all := lw_g (lw_at lw_m2 215 rfl) rfl
theorem q563 : (Jvm.Cond.soleField "CameraMoves$Film" "plan") ∈ lw_all := lw_g (lw_at lw_m2 216 rfl) rfl
theorem q564 : (Jvm.Cond.laysFinal "CameraMoves$Film" "CameraMoves$Film" "status" "[I") ∈ lw_all := lw_g (lw_at lw_m2 217 rfl) rfl
theorem q565 : (Jvm.Cond.soleField "CameraMoves$Film" "status") ∈ lw_all := lw_g (lw_at lw_m2 218 rfl) rfl
theorem q566 : (Jvm.Cond.laysFinal "CameraMoves$Film" "CameraMoves$Film" "distance" "[I") ∈ lw_all := lw_g (lw_at lw_m2 219 rfl) rfl
theorem q567 : (Jvm.Cond.soleField "CameraMoves$Film" "distance") ∈ lw_all := lw_g (lw_at lw_m2 220 rfl) rfl
theorem q568 : (Jvm.Cond.laysFinal "CameraMoves$Film" "CameraMoves$Film" "at" "[[I") ∈ lw_all := lw_g (lw_at lw_m2 221 rfl) rfl
theorem q569 : (Jvm.Cond.soleField "CameraMoves$Film" "at") ∈ lw_all := lw_g (lw_at lw_m2 222 rfl) rfl
theorem q570 : (Jvm.Cond.superclass "CameraMoves$Film" "java/lang/Object") ∈ lw_all := lw_g (lw_at lw_m2 223 rfl) rfl
theorem q631 : (Jvm.Cond.instanceMethod ({ cls := "CameraMoves$Film", name := "layMoves", desc := "(LCameraMoves$Plan;)LCameraMoves$Film;" } : Jvm.MethodName)) ∈ lw_all := lw_g (lw_at lw_m3 44 rfl) rfl
theorem q632 : (Jvm.Cond.selects "CameraMoves$Film" ({ cls := "CameraMoves$Film", name := "layMoves", desc := "(LCameraMoves$Plan;)LCameraMoves$Film;" } : Jvm.MethodName) ({ cls := "CameraMoves$Film", name := "layMoves", desc := "(LCameraMoves$Plan;)LCameraMoves$Film;" } : Jvm.MethodName)) ∈ lw_all := lw_g (lw_at lw_m3 45 rfl) rfl
theorem q633 : (Jvm.Cond.code ({ cls := "CameraMoves$Film", name := "layMoves", desc := "(LCameraMoves$Plan;)LCameraMoves$Film;" } : Jvm.MethodName) prog_6_method_2_code (3 : Nat) (Option.some (Jvm.ClassFile.FieldType.object "CameraMoves$Film"))) ∈ lw_all := lw_g (lw_at lw_m3 46 rfl) rfl
theorem q634 : (Jvm.Cond.methodLink "CameraMoves$Film" (41 : Nat) ({ cls := "java/util/ArrayList", name := "size", desc := "()I" } : Jvm.MethodName)) ∈ lw_all := lw_g (lw_at lw_m3 47 rfl) rfl
theorem q638 : (Jvm.Cond.methodLink "CameraMoves$Film" (45 : Nat) ({ cls := "CameraMoves$Film", name := "layMoves", desc := "(I)V" } : Jvm.MethodName)) ∈ lw_all := lw_g (lw_at lw_m3 51 rfl) rfl
theorem q639 : (Jvm.Cond.privateMethod ({ cls := "CameraMoves$Film", name := "layMoves", desc := "(I)V" } : Jvm.MethodName)) ∈ lw_tbl := lw_at lw_m3 52 rfl
theorem q640 : (Jvm.Cond.instanceMethod ({ cls := "CameraMoves$Film", name := "layMoves", desc := "(I)V" } : Jvm.MethodName)) ∈ lw_all := lw_g (lw_at lw_m3 53 rfl) rfl
theorem q641 : (Jvm.Cond.code ({ cls := "CameraMoves$Film", name := "layMoves", desc := "(I)V" } : Jvm.MethodName) prog_6_method_3_code (9 : Nat) (Option.none : Option Jvm.ClassFile.FieldType)) ∈ lw_all := lw_g (lw_at lw_m3 54 rfl) rfl
theorem q642 : (Jvm.Cond.methodLink "CameraMoves$Film" (48 : Nat) ({ cls := "java/util/ArrayList", name := "get", desc := "(I)Ljava/lang/Object;" } : Jvm.MethodName)) ∈ lw_all := lw_g (lw_at lw_m3 55 rfl) rfl
theorem q656 : (Jvm.Cond.classLink "CameraMoves$Film" (52 : Nat) "CameraMoves$Axis") ∈ lw_all := lw_g (lw_at lw_m3 69 rfl) rfl
theorem q657 : (Jvm.Cond.methodLink "CameraMoves$Film" (58 : Nat) ({ cls := "CameraMoves$Plan", name := "inOrder", desc := "(I)Ljava/util/Iterator;" } : Jvm.MethodName)) ∈ lw_all := lw_g (lw_at lw_m3 70 rfl) rfl
theorem q694 : (Jvm.Cond.interfaceEntry "CameraMoves$Film" (62 : Nat)) ∈ lw_tbl := lw_at lw_m3 107 rfl
theorem q695 : (Jvm.Cond.methodLink "CameraMoves$Film" (62 : Nat) ({ cls := "java/util/Iterator", name := "hasNext", desc := "()Z" } : Jvm.MethodName)) ∈ lw_all := lw_g (lw_at lw_m3 108 rfl) rfl
theorem q710 : (Jvm.Cond.interfaceEntry "CameraMoves$Film" (68 : Nat)) ∈ lw_tbl := lw_at lw_m3 123 rfl
theorem q711 : (Jvm.Cond.methodLink "CameraMoves$Film" (68 : Nat) ({ cls := "java/util/Iterator", name := "next", desc := "()Ljava/lang/Object;" } : Jvm.MethodName)) ∈ lw_all := lw_g (lw_at lw_m3 124 rfl) rfl
theorem q779 : (Jvm.Cond.classLink "CameraMoves$Film" (72 : Nat) "java/lang/Integer") ∈ lw_all := lw_g (lw_at lw_m3 192 rfl) rfl
theorem q780 : (Jvm.Cond.methodLink "CameraMoves$Film" (74 : Nat) ({ cls := "java/lang/Integer", name := "intValue", desc := "()I" } : Jvm.MethodName)) ∈ lw_all := lw_g (lw_at lw_m3 193 rfl) rfl
theorem q784 : (Jvm.Cond.classLink "CameraMoves$Film" (80 : Nat) "CameraMoves$Cue") ∈ lw_all := lw_g (lw_at lw_m3 197 rfl) rfl
theorem q785 : (Jvm.Cond.methodLink "CameraMoves$Film" (88 : Nat) ({ cls := "CameraMoves$Axis", name := "reach", desc := "(I)I" } : Jvm.MethodName)) ∈ lw_all := lw_g (lw_at lw_m3 198 rfl) rfl
theorem q794 : (Jvm.Cond.methodLink "CameraMoves$Film" (92 : Nat) ({ cls := "java/lang/Math", name := "abs", desc := "(I)I" } : Jvm.MethodName)) ∈ lw_all := lw_g (lw_at lw_m3 207 rfl) rfl
theorem q798 : (Jvm.Cond.instanceMethod ({ cls := "CameraMoves$Film", name := "count", desc := "(I)I" } : Jvm.MethodName)) ∈ lw_all := lw_g (lw_at lw_m3 211 rfl) rfl
theorem q799 : (Jvm.Cond.selects "CameraMoves$Film" ({ cls := "CameraMoves$Film", name := "count", desc := "(I)I" } : Jvm.MethodName) ({ cls := "CameraMoves$Film", name := "count", desc := "(I)I" } : Jvm.MethodName)) ∈ lw_all := lw_g (lw_at lw_m3 212 rfl) rfl
theorem q800 : (Jvm.Cond.code ({ cls := "CameraMoves$Film", name := "count", desc := "(I)I" } : Jvm.MethodName) prog_6_method_13_code (4 : Nat) (Option.some Jvm.ClassFile.FieldType.int)) ∈ lw_all := lw_g (lw_at lw_m3 213 rfl) rfl
theorem q801 : (Jvm.Cond.methodLink "CameraMoves$Film" (170 : Nat) ({ cls := "CameraMoves$Film", name := "countOf", desc := "(II)I" } : Jvm.MethodName)) ∈ lw_all := lw_g (lw_at lw_m3 214 rfl) rfl
theorem q802 : (Jvm.Cond.instanceMethod ({ cls := "CameraMoves$Film", name := "countOf", desc := "(II)I" } : Jvm.MethodName)) ∈ lw_all := lw_g (lw_at lw_m3 215 rfl) rfl
theorem q803 : (Jvm.Cond.selects "CameraMoves$Film" ({ cls := "CameraMoves$Film", name := "countOf", desc := "(II)I" } : Jvm.MethodName) ({ cls := "CameraMoves$Film", name := "countOf", desc := "(II)I" } : Jvm.MethodName)) ∈ lw_all := lw_g (lw_at lw_m3 216 rfl) rfl
theorem q804 : (Jvm.Cond.code ({ cls := "CameraMoves$Film", name := "countOf", desc := "(II)I" } : Jvm.MethodName) prog_6_method_14_code (5 : Nat) (Option.some Jvm.ClassFile.FieldType.int)) ∈ lw_all := lw_g (lw_at lw_m3 217 rfl) rfl
theorem q805 : (Jvm.Cond.methodLinkNest "CameraMoves$Film" (105 : Nat) ({ cls := "CameraMoves", name := "has", desc := "(II)Z" } : Jvm.MethodName) "CameraMoves") ∈ lw_tbl := lw_at lw_m3 218 rfl
theorem q815 : (Jvm.Cond.instanceMethod ({ cls := "CameraMoves$Film", name := "lay", desc := "(LCameraMoves$Plan;)LCameraMoves$Film;" } : Jvm.MethodName)) ∈ lw_all := lw_g (lw_at lw_m3 228 rfl) rfl
theorem q816 : (Jvm.Cond.selects "CameraMoves$Film" ({ cls := "CameraMoves$Film", name := "lay", desc := "(LCameraMoves$Plan;)LCameraMoves$Film;" } : Jvm.MethodName) ({ cls := "CameraMoves$Film", name := "lay", desc := "(LCameraMoves$Plan;)LCameraMoves$Film;" } : Jvm.MethodName)) ∈ lw_all := lw_g (lw_at lw_m3 229 rfl) rfl
theorem q817 : (Jvm.Cond.code ({ cls := "CameraMoves$Film", name := "lay", desc := "(LCameraMoves$Plan;)LCameraMoves$Film;" } : Jvm.MethodName) prog_6_method_4_code (4 : Nat) (Option.some (Jvm.ClassFile.FieldType.object "CameraMoves$Film"))) ∈ lw_all := lw_g (lw_at lw_m3 230 rfl) rfl
theorem q818 : (Jvm.Cond.methodLink "CameraMoves$Film" (100 : Nat) ({ cls := "CameraMoves$Film", name := "layMoves", desc := "(LCameraMoves$Plan;)LCameraMoves$Film;" } : Jvm.MethodName)) ∈ lw_all := lw_g (lw_at lw_m3 231 rfl) rfl
theorem q819 : (Jvm.Cond.methodLink "CameraMoves$Film" (109 : Nat) ({ cls := "CameraMoves$Film", name := "layMove", desc := "(II)V" } : Jvm.MethodName)) ∈ lw_all := lw_g (lw_at lw_m3 232 rfl) rfl
theorem q820 : (Jvm.Cond.privateMethod ({ cls := "CameraMoves$Film", name := "layMove", desc := "(II)V" } : Jvm.MethodName)) ∈ lw_tbl := lw_at lw_m3 233 rfl
theorem q821 : (Jvm.Cond.instanceMethod ({ cls := "CameraMoves$Film", name := "layMove", desc := "(II)V" } : Jvm.MethodName)) ∈ lw_all := lw_g (lw_at lw_m3 234 rfl) rfl
theorem q822 : (Jvm.Cond.code ({ cls := "CameraMoves$Film", name := "layMove", desc := "(II)V" } : Jvm.MethodName) prog_6_method_5_code (6 : Nat) (Option.none : Option Jvm.ClassFile.FieldType)) ∈ lw_all := lw_g (lw_at lw_m3 235 rfl) rfl
theorem q823 : (Jvm.Cond.classLink "CameraMoves$Film" (113 : Nat) "CameraMoves$Ramp") ∈ lw_all := lw_g (lw_at lw_m3 236 rfl) rfl
theorem q825 : (Jvm.Cond.methodLink "CameraMoves$Film" (115 : Nat) ({ cls := "CameraMoves$Ramp", name := "<init>", desc := "(LCameraMoves$Axis;II)V" } : Jvm.MethodName)) ∈ lw_all := lw_g (lw_at lw_m3 238 rfl) rfl
theorem q850 : (Jvm.Cond.methodLink "CameraMoves$Film" (118 : Nat) ({ cls := "CameraMoves$Ramp", name := "speed", desc := "(I)I" } : Jvm.MethodName)) ∈ lw_all := lw_g (lw_at lw_m4 23 rfl) rfl
theorem q868 : (Jvm.Cond.instanceMethod ({ cls := "CameraMoves$Film", name := "moving", desc := "(I)I" } : Jvm.MethodName)) ∈ lw_all := lw_g (lw_at lw_m4 41 rfl) rfl
theorem q869 : (Jvm.Cond.selects "CameraMoves$Film" ({ cls := "CameraMoves$Film", name := "moving", desc := "(I)I" } : Jvm.MethodName) ({ cls := "CameraMoves$Film", name := "moving", desc := "(I)I" } : Jvm.MethodName)) ∈ lw_all := lw_g (lw_at lw_m4 42 rfl) rfl
theorem q870 : (Jvm.Cond.code ({ cls := "CameraMoves$Film", name := "moving", desc := "(I)I" } : Jvm.MethodName) prog_6_method_7_code (4 : Nat) (Option.some Jvm.ClassFile.FieldType.int)) ∈ lw_all := lw_g (lw_at lw_m4 43 rfl) rfl
theorem q871 : (Jvm.Cond.methodLink "CameraMoves$Film" (121 : Nat) ({ cls := "CameraMoves$Film", name := "speed", desc := "(II)I" } : Jvm.MethodName)) ∈ lw_all := lw_g (lw_at lw_m4 44 rfl) rfl
theorem q872 : (Jvm.Cond.instanceMethod ({ cls := "CameraMoves$Film", name := "speed", desc := "(II)I" } : Jvm.MethodName)) ∈ lw_all := lw_g (lw_at lw_m4 45 rfl) rfl
theorem q873 : (Jvm.Cond.selects "CameraMoves$Film" ({ cls := "CameraMoves$Film", name := "speed", desc := "(II)I" } : Jvm.MethodName) ({ cls := "CameraMoves$Film", name := "speed", desc := "(II)I" } : Jvm.MethodName)) ∈ lw_all := lw_g (lw_at lw_m4 46 rfl) rfl
theorem q874 : (Jvm.Cond.code ({ cls := "CameraMoves$Film", name := "speed", desc := "(II)I" } : Jvm.MethodName) prog_6_method_6_code (3 : Nat) (Option.some Jvm.ClassFile.FieldType.int)) ∈ lw_all := lw_g (lw_at lw_m4 47 rfl) rfl
theorem q884 : (Jvm.Cond.instanceMethod ({ cls := "CameraMoves$Film", name := "walls", desc := "(I)I" } : Jvm.MethodName)) ∈ lw_all := lw_g (lw_at lw_m4 57 rfl) rfl
theorem q885 : (Jvm.Cond.selects "CameraMoves$Film" ({ cls := "CameraMoves$Film", name := "walls", desc := "(I)I" } : Jvm.MethodName) ({ cls := "CameraMoves$Film", name := "walls", desc := "(I)I" } : Jvm.MethodName)) ∈ lw_all := lw_g (lw_at lw_m4 58 rfl) rfl
theorem q886 : (Jvm.Cond.code ({ cls := "CameraMoves$Film", name := "walls", desc := "(I)I" } : Jvm.MethodName) prog_6_method_11_code (4 : Nat) (Option.some Jvm.ClassFile.FieldType.int)) ∈ lw_all := lw_g (lw_at lw_m4 59 rfl) rfl
theorem q887 : (Jvm.Cond.methodLink "CameraMoves$Film" (165 : Nat) ({ cls := "CameraMoves$Film", name := "isInside", desc := "(II)Z" } : Jvm.MethodName)) ∈ lw_all := lw_g (lw_at lw_m4 60 rfl) rfl
theorem q888 : (Jvm.Cond.instanceMethod ({ cls := "CameraMoves$Film", name := "isInside", desc := "(II)Z" } : Jvm.MethodName)) ∈ lw_all := lw_g (lw_at lw_m4 61 rfl) rfl
theorem q889 : (Jvm.Cond.selects "CameraMoves$Film" ({ cls := "CameraMoves$Film", name := "isInside", desc := "(II)Z" } : Jvm.MethodName) ({ cls := "CameraMoves$Film", name := "isInside", desc := "(II)Z" } : Jvm.MethodName)) ∈ lw_all := lw_g (lw_at lw_m4 62 rfl) rfl
theorem q890 : (Jvm.Cond.code ({ cls := "CameraMoves$Film", name := "isInside", desc := "(II)Z" } : Jvm.MethodName) prog_6_method_10_code (4 : Nat) (Option.some Jvm.ClassFile.FieldType.boolean)) ∈ lw_all := lw_g (lw_at lw_m4 63 rfl) rfl
theorem q891 : (Jvm.Cond.classLink "CameraMoves$Film" (141 : Nat) "CameraMoves$Wall") ∈ lw_all := lw_g (lw_at lw_m4 64 rfl) rfl
theorem q892 : (Jvm.Cond.methodLinkNest "CameraMoves$Film" (152 : Nat) ({ cls := "CameraMoves", name := "in", desc := "(JJJ)Z" } : Jvm.MethodName) "CameraMoves") ∈ lw_tbl := lw_at lw_m4 65 rfl
theorem q1157 : (Jvm.Cond.fieldLinkNest "CameraMoves$Film" (54 : Nat) "CameraMoves$Axis" "start" "I" "CameraMoves") ∈ lw_tbl := lw_at lw_m5 90 rfl
theorem q1160 : (Jvm.Cond.fieldLinkNest "CameraMoves$Film" (178 : Nat) "CameraMoves$Axis" "speed" "I" "CameraMoves") ∈ lw_tbl := lw_at lw_m5 93 rfl
theorem q1208 : (Jvm.Cond.selects "CameraMoves$Film" ({ cls := "java/lang/Object", name := "getClass", desc := "()Ljava/lang/Class;" } : Jvm.MethodName) ({ cls := "java/lang/Object", name := "getClass", desc := "()Ljava/lang/Class;" } : Jvm.MethodName)) ∈ lw_all := lw_g (lw_at lw_m5 141 rfl) rfl
theorem q1249 : (Jvm.Cond.fieldLinkNest "CameraMoves$Film" (82 : Nat) "CameraMoves$Cue" "targets" "[I" "CameraMoves") ∈ lw_tbl := lw_at lw_m5 182 rfl
theorem q1253 : (Jvm.Cond.fieldLinkNest "CameraMoves$Film" (97 : Nat) "CameraMoves$Cue" "frame" "I" "CameraMoves") ∈ lw_tbl := lw_at lw_m5 186 rfl
theorem q1256 : (Jvm.Cond.fieldLinkNest "CameraMoves$Film" (85 : Nat) "CameraMoves$Cue" "length" "I" "CameraMoves") ∈ lw_tbl := lw_at lw_m5 189 rfl
theorem q1260 : (Jvm.Cond.fieldLinkNest "CameraMoves$Film" (103 : Nat) "CameraMoves$Cue" "axes" "I" "CameraMoves") ∈ lw_tbl := lw_at lw_m5 193 rfl
theorem q1292 : (Jvm.Cond.fieldLinkNest "CameraMoves$Film" (143 : Nat) "CameraMoves$Wall" "axis" "I" "CameraMoves") ∈ lw_tbl := lw_at lw_m5 225 rfl
theorem q1294 : (Jvm.Cond.fieldLinkNest "CameraMoves$Film" (146 : Nat) "CameraMoves$Wall" "from" "I" "CameraMoves") ∈ lw_tbl := lw_at lw_m5 227 rfl
theorem q1296 : (Jvm.Cond.fieldLinkNest "CameraMoves$Film" (149 : Nat) "CameraMoves$Wall" "to" "I" "CameraMoves") ∈ lw_tbl := lw_at lw_m5 229 rfl
theorem q1298 : (Jvm.Cond.fieldLinkNest "CameraMoves$Film" (156 : Nat) "CameraMoves$Wall" "other" "I" "CameraMoves") ∈ lw_tbl := lw_at lw_m5 231 rfl
theorem q1300 : (Jvm.Cond.fieldLinkNest "CameraMoves$Film" (159 : Nat) "CameraMoves$Wall" "otherFrom" "I" "CameraMoves") ∈ lw_tbl := lw_at lw_m5 233 rfl
theorem q1302 : (Jvm.Cond.fieldLinkNest "CameraMoves$Film" (162 : Nat) "CameraMoves$Wall" "otherTo" "I" "CameraMoves") ∈ lw_tbl := lw_at lw_m5 235 rfl
theorem q1530 : (Jvm.Cond.instanceMethod ({ cls := "CameraMoves$Film", name := "travelled", desc := "(I)I" } : Jvm.MethodName)) ∈ lw_all := lw_g (lw_at lw_m6 223 rfl) rfl
theorem q1531 : (Jvm.Cond.selects "CameraMoves$Film" ({ cls := "CameraMoves$Film", name := "travelled", desc := "(I)I" } : Jvm.MethodName) ({ cls := "CameraMoves$Film", name := "travelled", desc := "(I)I" } : Jvm.MethodName)) ∈ lw_all := lw_g (lw_at lw_m6 224 rfl) rfl
theorem q1532 : (Jvm.Cond.code ({ cls := "CameraMoves$Film", name := "travelled", desc := "(I)I" } : Jvm.MethodName) prog_6_method_9_code (2 : Nat) (Option.some Jvm.ClassFile.FieldType.int)) ∈ lw_all := lw_g (lw_at lw_m6 225 rfl) rfl
theorem q1533 : (Jvm.Cond.classLink "CameraMoves$Film" (129 : Nat) "CameraMoves$Film$1") ∈ lw_all := lw_g (lw_at lw_m6 226 rfl) rfl
theorem q1535 : (Jvm.Cond.methodLink "CameraMoves$Film" (131 : Nat) ({ cls := "CameraMoves$Film$1", name := "<init>", desc := "(LCameraMoves$Film;)V" } : Jvm.MethodName)) ∈ lw_all := lw_g (lw_at lw_m6 228 rfl) rfl
theorem q1546 : (Jvm.Cond.methodLink "CameraMoves$Film" (134 : Nat) ({ cls := "CameraMoves$Film", name := "measure", desc := "(ILCameraMoves$Measure;)I" } : Jvm.MethodName)) ∈ lw_all := lw_g (lw_at lw_m6 239 rfl) rfl
theorem q1547 : (Jvm.Cond.instanceMethod ({ cls := "CameraMoves$Film", name := "measure", desc := "(ILCameraMoves$Measure;)I" } : Jvm.MethodName)) ∈ lw_all := lw_g (lw_at lw_m7 0 rfl) rfl
theorem q1548 : (Jvm.Cond.selects "CameraMoves$Film" ({ cls := "CameraMoves$Film", name := "measure", desc := "(ILCameraMoves$Measure;)I" } : Jvm.MethodName) ({ cls := "CameraMoves$Film", name := "measure", desc := "(ILCameraMoves$Measure;)I" } : Jvm.MethodName)) ∈ lw_all := lw_g (lw_at lw_m7 1 rfl) rfl
theorem q1549 : (Jvm.Cond.code ({ cls := "CameraMoves$Film", name := "measure", desc := "(ILCameraMoves$Measure;)I" } : Jvm.MethodName) prog_6_method_8_code (5 : Nat) (Option.some Jvm.ClassFile.FieldType.int)) ∈ lw_all := lw_g (lw_at lw_m7 2 rfl) rfl
theorem q1550 : (Jvm.Cond.methodLink "CameraMoves$Film" (124 : Nat) ({ cls := "CameraMoves$Measure", name := "with", desc := "(II)I" } : Jvm.MethodName)) ∈ lw_all := lw_g (lw_at lw_m7 3 rfl) rfl
theorem q1652 : (Jvm.Cond.instanceMethod ({ cls := "CameraMoves$Film", name := "fits", desc := "(LCameraMoves$Pass;)Z" } : Jvm.MethodName)) ∈ lw_all := lw_g (lw_at lw_m7 105 rfl) rfl
theorem q1653 : (Jvm.Cond.selects "CameraMoves$Film" ({ cls := "CameraMoves$Film", name := "fits", desc := "(LCameraMoves$Pass;)Z" } : Jvm.MethodName) ({ cls := "CameraMoves$Film", name := "fits", desc := "(LCameraMoves$Pass;)Z" } : Jvm.MethodName)) ∈ lw_all := lw_g (lw_at lw_m7 106 rfl) rfl
theorem q1654 : (Jvm.Cond.code ({ cls := "CameraMoves$Film", name := "fits", desc := "(LCameraMoves$Pass;)Z" } : Jvm.MethodName) prog_6_method_15_code (4 : Nat) (Option.some Jvm.ClassFile.FieldType.boolean)) ∈ lw_all := lw_g (lw_at lw_m7 107 rfl) rfl
theorem q1655 : (Jvm.Cond.methodLink "CameraMoves$Film" (173 : Nat) ({ cls := "CameraMoves$Pass", name := "shown", desc := "(I)I" } : Jvm.MethodName)) ∈ lw_all := lw_g (lw_at lw_m7 108 rfl) rfl
theorem q1664 : (Jvm.Cond.instanceMethod ({ cls := "CameraMoves$Film", name := "isMatch", desc := "(LCameraMoves$Pass;LCameraMoves$Pass;I)Z" } : Jvm.MethodName)) ∈ lw_all := lw_g (lw_at lw_m7 117 rfl) rfl
theorem q1665 : (Jvm.Cond.selects "CameraMoves$Film" ({ cls := "CameraMoves$Film", name := "isMatch", desc := "(LCameraMoves$Pass;LCameraMoves$Pass;I)Z" } : Jvm.MethodName) ({ cls := "CameraMoves$Film", name := "isMatch", desc := "(LCameraMoves$Pass;LCameraMoves$Pass;I)Z" } : Jvm.MethodName)) ∈ lw_all := lw_g (lw_at lw_m7 118 rfl) rfl
theorem q1666 : (Jvm.Cond.code ({ cls := "CameraMoves$Film", name := "isMatch", desc := "(LCameraMoves$Pass;LCameraMoves$Pass;I)Z" } : Jvm.MethodName) prog_6_method_16_code (6 : Nat) (Option.some Jvm.ClassFile.FieldType.boolean)) ∈ lw_all := lw_g (lw_at lw_m7 119 rfl) rfl
theorem q1754 : (Jvm.Cond.instanceMethod ({ cls := "CameraMoves$Film", name := "hits", desc := "()I" } : Jvm.MethodName)) ∈ lw_all := lw_g (lw_at lw_m7 207 rfl) rfl
theorem q1755 : (Jvm.Cond.selects "CameraMoves$Film" ({ cls := "CameraMoves$Film", name := "hits", desc := "()I" } : Jvm.MethodName) ({ cls := "CameraMoves$Film", name := "hits", desc := "()I" } : Jvm.MethodName)) ∈ lw_all := lw_g (lw_at lw_m7 208 rfl) rfl
theorem q1756 : (Jvm.Cond.code ({ cls := "CameraMoves$Film", name := "hits", desc := "()I" } : Jvm.MethodName) prog_6_method_12_code (3 : Nat) (Option.some Jvm.ClassFile.FieldType.int)) ∈ lw_all := lw_g (lw_at lw_m7 209 rfl) rfl
theorem q1757 : (Jvm.Cond.methodLink "CameraMoves$Film" (168 : Nat) ({ cls := "CameraMoves$Film", name := "walls", desc := "(I)I" } : Jvm.MethodName)) ∈ lw_all := lw_g (lw_at lw_m7 210 rfl) rfl
theorem q2676 : (Jvm.Cond.castable "CameraMoves$Film" "java/lang/Object") ∈ lw_tbl := lw_at lw_m11 169 rfl
theorem in_X3 : ∀ w ∈ wsX30, w ∈ lw_all := lw_in wsX30 [562, 564, 566, 568] (by decide +kernel) (by decide +kernel)

/-! CameraMoves$Parser -/
set_option maxRecDepth 100000
def RX5 : String := "CameraMoves$Parser"
def TX5 : u_T := fun k => match k with
  | 0 => ("CameraMoves$Parser", "size", "I", true)
  | 1 => ("CameraMoves$Parser", "parsed", "LCameraMoves$Plan;", true)
  | 2 => ("CameraMoves$Parser", "start", "I", false)
  | 3 => ("CameraMoves$Parser", "next", "I", false)
  | 4 => ("CameraMoves$Parser", "token", "I", false)
  | 5 => ("CameraMoves$Parser", "number", "I", false)
  | 6 => ("CameraMoves$Parser", "word", "Ljava/lang/String;", false)
  | _ => ("CameraMoves$Parser", "this$0", "LCameraMoves;", true)
def tyX5 : Nat → FieldType := fun k => match k with
  | 0 => .int
  | 1 => .object "CameraMoves$Plan"
  | 2 => .int
  | 3 => .int
  | 4 => .int
  | 5 => .int
  | 6 => .object "java/lang/String"
  | _ => .object "CameraMoves"
abbrev wsX50 : List Cond := u_ws RX5 TX5 8
theorem nmX5 : ∀ a, a < 8 → ∀ b, b < 8 → a ≠ b → (TX5 a).2.1 ≠ (TX5 b).2.1 := by decide +kernel
theorem tyX5_ok : ∀ k, k < 8 → parseFieldDescriptor (TX5 k).2.2.1 = some (tyX5 k) := by decide +kernel
abbrev cX5_init : ByteArray := prog_9_method_1_code
def yX5_init : MethodName := ⟨RX5, "<init>", "(LCameraMoves;I)V"⟩
def dkwX5_init_1 : List UInt8 := [183, 0, 22, 181, 0, 25, 42, 18, 29, 181, 0, 31, 42, 28, 181, 0, 35, 177]
abbrev dktX5_init_1 : List UInt8 := dkwX5_init_1 ++ []
def dkwX5_init_0 : List UInt8 := [42, 43, 181, 0, 3, 42, 183, 0, 9, 42, 187, 0, 15, 89, 187, 0, 17, 89, 7, 183, 0, 19]
abbrev dktX5_init_0 : List UInt8 := dkwX5_init_0 ++ dktX5_init_1
theorem dksX5_init_0 : cX5_init.data.toList.drop 0 = dktX5_init_0 := by decide +kernel
theorem dksX5_init_1 : cX5_init.data.toList.drop 22 = dktX5_init_1 := dk_seg dksX5_init_0 22 rfl rfl
theorem dX5_init_0 : decode cX5_init 0 = .ok (.aload_n 0, 1) := dk_42 (dk_at dksX5_init_0 0 rfl rfl)
theorem dX5_init_1 : decode cX5_init 1 = .ok (.aload_n 1, 1) := dk_43 (dk_at dksX5_init_0 1 rfl rfl)
theorem dX5_init_2 : decode cX5_init 2 = .ok (.putfield 3, 3) := dk_181 0 3 (dk_at dksX5_init_0 2 rfl rfl)
theorem dX5_init_5 : decode cX5_init 5 = .ok (.aload_n 0, 1) := dk_42 (dk_at dksX5_init_0 5 rfl rfl)
theorem dX5_init_6 : decode cX5_init 6 = .ok (.invokespecial 9, 3) := dk_183 0 9 (dk_at dksX5_init_0 6 rfl rfl)
theorem dX5_init_9 : decode cX5_init 9 = .ok (.aload_n 0, 1) := dk_42 (dk_at dksX5_init_0 9 rfl rfl)
theorem dX5_init_10 : decode cX5_init 10 = .ok (.new 15, 3) := dk_187 0 15 (dk_at dksX5_init_0 10 rfl rfl)
theorem dX5_init_13 : decode cX5_init 13 = .ok (.dup, 1) := dk_89 (dk_at dksX5_init_0 13 rfl rfl)
theorem dX5_init_14 : decode cX5_init 14 = .ok (.new 17, 3) := dk_187 0 17 (dk_at dksX5_init_0 14 rfl rfl)
theorem dX5_init_17 : decode cX5_init 17 = .ok (.dup, 1) := dk_89 (dk_at dksX5_init_0 17 rfl rfl)
theorem dX5_init_18 : decode cX5_init 18 = .ok (.iconst 4, 1) := dk_7 (dk_at dksX5_init_0 18 rfl rfl)
theorem dX5_init_19 : decode cX5_init 19 = .ok (.invokespecial 19, 3) := dk_183 0 19 (dk_at dksX5_init_0 19 rfl rfl)
theorem dX5_init_22 : decode cX5_init 22 = .ok (.invokespecial 22, 3) := dk_183 0 22 (dk_at dksX5_init_1 0 rfl rfl)
theorem dX5_init_25 : decode cX5_init 25 = .ok (.putfield 25, 3) := dk_181 0 25 (dk_at dksX5_init_1 3 rfl rfl)
theorem dX5_init_28 : decode cX5_init 28 = .ok (.aload_n 0, 1) := dk_42 (dk_at dksX5_init_1 6 rfl rfl)
theorem dX5_init_29 : decode cX5_init 29 = .ok (.ldc 29, 2) := dk_18 29 (dk_at dksX5_init_1 7 rfl rfl)
theorem dX5_init_31 : decode cX5_init 31 = .ok (.putfield 31, 3) := dk_181 0 31 (dk_at dksX5_init_1 9 rfl rfl)
theorem dX5_init_34 : decode cX5_init 34 = .ok (.aload_n 0, 1) := dk_42 (dk_at dksX5_init_1 12 rfl rfl)
theorem dX5_init_35 : decode cX5_init 35 = .ok (.iload_n 2, 1) := dk_28 (dk_at dksX5_init_1 13 rfl rfl)
theorem dX5_init_36 : decode cX5_init 36 = .ok (.putfield 35, 3) := dk_181 0 35 (dk_at dksX5_init_1 14 rfl rfl)
theorem dX5_init_39 : decode cX5_init 39 = .ok (.return_, 1) := dk_177 (dk_at dksX5_init_1 17 rfl rfl)
abbrev cX5_parse : ByteArray := prog_9_method_9_code
def yX5_parse : MethodName := ⟨RX5, "parse", "()LCameraMoves$Plan;"⟩
def dkwX5_parse_1 : List UInt8 := [4, 167, 0, 4, 3, 182, 0, 88, 42, 182, 0, 92, 167, 255, 224, 42, 180, 0, 25, 176]
abbrev dktX5_parse_1 : List UInt8 := dkwX5_parse_1 ++ []
def dkwX5_parse_0 : List UInt8 := [42, 182, 0, 92, 42, 180, 0, 57, 153, 0, 31, 42, 182, 0, 124, 42, 42, 180, 0, 57, 7, 160, 0, 7]
abbrev dktX5_parse_0 : List UInt8 := dkwX5_parse_0 ++ dktX5_parse_1
theorem dksX5_parse_0 : cX5_parse.data.toList.drop 0 = dktX5_parse_0 := by decide +kernel
theorem dksX5_parse_1 : cX5_parse.data.toList.drop 24 = dktX5_parse_1 := dk_seg dksX5_parse_0 24 rfl rfl
theorem dX5_parse_0 : decode cX5_parse 0 = .ok (.aload_n 0, 1) := dk_42 (dk_at dksX5_parse_0 0 rfl rfl)
theorem dX5_parse_1 : decode cX5_parse 1 = .ok (.invokevirtual 92, 3) := dk_182 0 92 (dk_at dksX5_parse_0 1 rfl rfl)
theorem dX5_parse_4 : decode cX5_parse 4 = .ok (.aload_n 0, 1) := dk_42 (dk_at dksX5_parse_0 4 rfl rfl)
theorem dX5_parse_5 : decode cX5_parse 5 = .ok (.getfield 57, 3) := dk_180 0 57 (dk_at dksX5_parse_0 5 rfl rfl)
theorem dX5_parse_8 : decode cX5_parse 8 = .ok (.ifCond .eq 31, 3) := dk_153 0 31 (dk_at dksX5_parse_0 8 rfl rfl)
theorem dX5_parse_11 : decode cX5_parse 11 = .ok (.aload_n 0, 1) := dk_42 (dk_at dksX5_parse_0 11 rfl rfl)
theorem dX5_parse_12 : decode cX5_parse 12 = .ok (.invokevirtual 124, 3) := dk_182 0 124 (dk_at dksX5_parse_0 12 rfl rfl)
theorem dX5_parse_15 : decode cX5_parse 15 = .ok (.aload_n 0, 1) := dk_42 (dk_at dksX5_parse_0 15 rfl rfl)
theorem dX5_parse_16 : decode cX5_parse 16 = .ok (.aload_n 0, 1) := dk_42 (dk_at dksX5_parse_0 16 rfl rfl)
theorem dX5_parse_17 : decode cX5_parse 17 = .ok (.getfield 57, 3) := dk_180 0 57 (dk_at dksX5_parse_0 17 rfl rfl)
theorem dX5_parse_20 : decode cX5_parse 20 = .ok (.iconst 4, 1) := dk_7 (dk_at dksX5_parse_0 20 rfl rfl)
theorem dX5_parse_21 : decode cX5_parse 21 = .ok (.if_icmp .ne 7, 3) := dk_160 0 7 (dk_at dksX5_parse_0 21 rfl rfl)
theorem dX5_parse_24 : decode cX5_parse 24 = .ok (.iconst 1, 1) := dk_4 (dk_at dksX5_parse_1 0 rfl rfl)
theorem dX5_parse_25 : decode cX5_parse 25 = .ok (.goto 4, 3) := dk_167 0 4 (dk_at dksX5_parse_1 1 rfl rfl)
theorem dX5_parse_28 : decode cX5_parse 28 = .ok (.iconst 0, 1) := dk_3 (dk_at dksX5_parse_1 4 rfl rfl)
theorem dX5_parse_29 : decode cX5_parse 29 = .ok (.invokevirtual 88, 3) := dk_182 0 88 (dk_at dksX5_parse_1 5 rfl rfl)
theorem dX5_parse_32 : decode cX5_parse 32 = .ok (.aload_n 0, 1) := dk_42 (dk_at dksX5_parse_1 8 rfl rfl)
theorem dX5_parse_33 : decode cX5_parse 33 = .ok (.invokevirtual 92, 3) := dk_182 0 92 (dk_at dksX5_parse_1 9 rfl rfl)
theorem dX5_parse_36 : decode cX5_parse 36 = .ok (.goto (-32), 3) := dk_167 255 224 (dk_at dksX5_parse_1 12 rfl rfl)
theorem dX5_parse_39 : decode cX5_parse 39 = .ok (.aload_n 0, 1) := dk_42 (dk_at dksX5_parse_1 15 rfl rfl)
theorem dX5_parse_40 : decode cX5_parse 40 = .ok (.getfield 25, 3) := dk_180 0 25 (dk_at dksX5_parse_1 16 rfl rfl)
theorem dX5_parse_43 : decode cX5_parse 43 = .ok (.areturn, 1) := dk_176 (dk_at dksX5_parse_1 19 rfl rfl)
abbrev cX5_advance : ByteArray := prog_9_method_3_code
def yX5_advance : MethodName := ⟨RX5, "advance", "()V"⟩
def dkwX5_advance_12 : List UInt8 := [153, 0, 7, 8, 167, 0, 4, 4, 181, 0, 57, 42, 89, 180, 0, 39, 4, 96, 181, 0, 39, 177]
abbrev dktX5_advance_12 : List UInt8 := dkwX5_advance_12 ++ []
def dkwX5_advance_11 : List UInt8 := [42, 16, 59, 16, 59, 182, 0, 50, 153, 0, 7, 7, 167, 0, 19, 42, 16, 45, 16, 45, 182, 0, 50]
abbrev dktX5_advance_11 : List UInt8 := dkwX5_advance_11 ++ dktX5_advance_12
def dkwX5_advance_10 : List UInt8 := [180, 0, 39, 42, 180, 0, 54, 100, 7, 164, 0, 7, 4, 167, 0, 4, 6, 181, 0, 57, 167, 0, 48, 42]
abbrev dktX5_advance_10 : List UInt8 := dkwX5_advance_10 ++ dktX5_advance_11
def dkwX5_advance_9 : List UInt8 := [100, 184, 0, 79, 181, 0, 75, 42, 89, 180, 0, 39, 4, 96, 181, 0, 39, 167, 255, 203, 42, 42]
abbrev dktX5_advance_9 : List UInt8 := dkwX5_advance_9 ++ dktX5_advance_10
def dkwX5_advance_8 : List UInt8 := [18, 78, 16, 10, 42, 180, 0, 75, 104, 42, 180, 0, 3, 180, 0, 42, 42, 180, 0, 39, 51, 96, 16, 48]
abbrev dktX5_advance_8 : List UInt8 := dkwX5_advance_8 ++ dktX5_advance_9
def dkwX5_advance_7 : List UInt8 := [182, 0, 50, 153, 0, 89, 42, 3, 181, 0, 75, 42, 16, 48, 16, 57, 182, 0, 50, 153, 0, 48, 42]
abbrev dktX5_advance_7 : List UInt8 := dkwX5_advance_7 ++ dktX5_advance_8
def dkwX5_advance_6 : List UInt8 := [182, 0, 71, 16, 8, 164, 0, 7, 4, 167, 0, 4, 5, 181, 0, 57, 167, 0, 145, 42, 16, 48, 16, 57]
abbrev dktX5_advance_6 : List UInt8 := dkwX5_advance_6 ++ dktX5_advance_7
def dkwX5_advance_5 : List UInt8 := [42, 89, 180, 0, 39, 4, 96, 181, 0, 39, 167, 255, 217, 42, 43, 182, 0, 67, 181, 0, 31, 42, 43]
abbrev dktX5_advance_5 : List UInt8 := dkwX5_advance_5 ++ dktX5_advance_6
def dkwX5_advance_4 : List UInt8 := [182, 0, 50, 153, 0, 34, 43, 42, 180, 0, 3, 180, 0, 42, 42, 180, 0, 39, 51, 146, 182, 0, 63, 87]
abbrev dktX5_advance_4 : List UInt8 := dkwX5_advance_4 ++ dktX5_advance_5
def dkwX5_advance_3 : List UInt8 := [16, 97, 16, 122, 182, 0, 50, 153, 0, 82, 187, 0, 60, 89, 183, 0, 62, 76, 42, 16, 97, 16, 122]
abbrev dktX5_advance_3 : List UInt8 := dkwX5_advance_3 ++ dktX5_advance_4
def dkwX5_advance_2 : List UInt8 := [181, 0, 31, 42, 180, 0, 39, 42, 180, 0, 35, 160, 0, 11, 42, 3, 181, 0, 57, 167, 0, 235, 42]
abbrev dktX5_advance_2 : List UInt8 := dkwX5_advance_2 ++ dktX5_advance_3
def dkwX5_advance_1 : List UInt8 := [180, 0, 39, 4, 96, 181, 0, 39, 167, 255, 224, 42, 42, 180, 0, 39, 181, 0, 54, 42, 18, 29]
abbrev dktX5_advance_1 : List UInt8 := dkwX5_advance_1 ++ dktX5_advance_2
def dkwX5_advance_0 : List UInt8 := [42, 16, 32, 16, 32, 182, 0, 50, 154, 0, 14, 42, 16, 10, 16, 10, 182, 0, 50, 153, 0, 16, 42, 89]
abbrev dktX5_advance_0 : List UInt8 := dkwX5_advance_0 ++ dktX5_advance_1
theorem dksX5_advance_0 : cX5_advance.data.toList.drop 0 = dktX5_advance_0 := by decide +kernel
theorem dksX5_advance_1 : cX5_advance.data.toList.drop 24 = dktX5_advance_1 := dk_seg dksX5_advance_0 24 rfl rfl
theorem dksX5_advance_2 : cX5_advance.data.toList.drop 46 = dktX5_advance_2 := dk_seg dksX5_advance_1 22 rfl rfl
theorem dksX5_advance_3 : cX5_advance.data.toList.drop 69 = dktX5_advance_3 := dk_seg dksX5_advance_2 23 rfl rfl
theorem dksX5_advance_4 : cX5_advance.data.toList.drop 92 = dktX5_advance_4 := dk_seg dksX5_advance_3 23 rfl rfl
theorem dksX5_advance_5 : cX5_advance.data.toList.drop 116 = dktX5_advance_5 := dk_seg dksX5_advance_4 24 rfl rfl
theorem dksX5_advance_6 : cX5_advance.data.toList.drop 139 = dktX5_advance_6 := dk_seg dksX5_advance_5 23 rfl rfl
theorem dksX5_advance_7 : cX5_advance.data.toList.drop 163 = dktX5_advance_7 := dk_seg dksX5_advance_6 24 rfl rfl
theorem dksX5_advance_8 : cX5_advance.data.toList.drop 186 = dktX5_advance_8 := dk_seg dksX5_advance_7 23 rfl rfl
theorem dksX5_advance_9 : cX5_advance.data.toList.drop 210 = dktX5_advance_9 := dk_seg dksX5_advance_8 24 rfl rfl
theorem dksX5_advance_10 : cX5_advance.data.toList.drop 232 = dktX5_advance_10 := dk_seg dksX5_advance_9 22 rfl rfl
theorem dksX5_advance_11 : cX5_advance.data.toList.drop 256 = dktX5_advance_11 := dk_seg dksX5_advance_10 24 rfl rfl
theorem dksX5_advance_12 : cX5_advance.data.toList.drop 279 = dktX5_advance_12 := dk_seg dksX5_advance_11 23 rfl rfl
theorem dX5_advance_0 : decode cX5_advance 0 = .ok (.aload_n 0, 1) := dk_42 (dk_at dksX5_advance_0 0 rfl rfl)
theorem dX5_advance_1 : decode cX5_advance 1 = .ok (.bipush 32, 2) := dk_16 32 (dk_at dksX5_advance_0 1 rfl rfl)
theorem dX5_advance_3 : decode cX5_advance 3 = .ok (.bipush 32, 2) := dk_16 32 (dk_at dksX5_advance_0 3 rfl rfl)
theorem dX5_advance_5 : decode cX5_advance 5 = .ok (.invokevirtual 50, 3) := dk_182 0 50 (dk_at dksX5_advance_0 5 rfl rfl)
theorem dX5_advance_8 : decode cX5_advance 8 = .ok (.ifCond .ne 14, 3) := dk_154 0 14 (dk_at dksX5_advance_0 8 rfl rfl)
theorem dX5_advance_11 : decode cX5_advance 11 = .ok (.aload_n 0, 1) := dk_42 (dk_at dksX5_advance_0 11 rfl rfl)
theorem dX5_advance_12 : decode cX5_advance 12 = .ok (.bipush 10, 2) := dk_16 10 (dk_at dksX5_advance_0 12 rfl rfl)
theorem dX5_advance_14 : decode cX5_advance 14 = .ok (.bipush 10, 2) := dk_16 10 (dk_at dksX5_advance_0 14 rfl rfl)
theorem dX5_advance_16 : decode cX5_advance 16 = .ok (.invokevirtual 50, 3) := dk_182 0 50 (dk_at dksX5_advance_0 16 rfl rfl)
theorem dX5_advance_19 : decode cX5_advance 19 = .ok (.ifCond .eq 16, 3) := dk_153 0 16 (dk_at dksX5_advance_0 19 rfl rfl)
theorem dX5_advance_22 : decode cX5_advance 22 = .ok (.aload_n 0, 1) := dk_42 (dk_at dksX5_advance_0 22 rfl rfl)
theorem dX5_advance_23 : decode cX5_advance 23 = .ok (.dup, 1) := dk_89 (dk_at dksX5_advance_0 23 rfl rfl)
theorem dX5_advance_24 : decode cX5_advance 24 = .ok (.getfield 39, 3) := dk_180 0 39 (dk_at dksX5_advance_1 0 rfl rfl)
theorem dX5_advance_27 : decode cX5_advance 27 = .ok (.iconst 1, 1) := dk_4 (dk_at dksX5_advance_1 3 rfl rfl)
theorem dX5_advance_28 : decode cX5_advance 28 = .ok (.iadd, 1) := dk_96 (dk_at dksX5_advance_1 4 rfl rfl)
theorem dX5_advance_29 : decode cX5_advance 29 = .ok (.putfield 39, 3) := dk_181 0 39 (dk_at dksX5_advance_1 5 rfl rfl)
theorem dX5_advance_32 : decode cX5_advance 32 = .ok (.goto (-32), 3) := dk_167 255 224 (dk_at dksX5_advance_1 8 rfl rfl)
theorem dX5_advance_35 : decode cX5_advance 35 = .ok (.aload_n 0, 1) := dk_42 (dk_at dksX5_advance_1 11 rfl rfl)
theorem dX5_advance_36 : decode cX5_advance 36 = .ok (.aload_n 0, 1) := dk_42 (dk_at dksX5_advance_1 12 rfl rfl)
theorem dX5_advance_37 : decode cX5_advance 37 = .ok (.getfield 39, 3) := dk_180 0 39 (dk_at dksX5_advance_1 13 rfl rfl)
theorem dX5_advance_40 : decode cX5_advance 40 = .ok (.putfield 54, 3) := dk_181 0 54 (dk_at dksX5_advance_1 16 rfl rfl)
theorem dX5_advance_43 : decode cX5_advance 43 = .ok (.aload_n 0, 1) := dk_42 (dk_at dksX5_advance_1 19 rfl rfl)
theorem dX5_advance_44 : decode cX5_advance 44 = .ok (.ldc 29, 2) := dk_18 29 (dk_at dksX5_advance_1 20 rfl rfl)
theorem dX5_advance_46 : decode cX5_advance 46 = .ok (.putfield 31, 3) := dk_181 0 31 (dk_at dksX5_advance_2 0 rfl rfl)
theorem dX5_advance_49 : decode cX5_advance 49 = .ok (.aload_n 0, 1) := dk_42 (dk_at dksX5_advance_2 3 rfl rfl)
theorem dX5_advance_50 : decode cX5_advance 50 = .ok (.getfield 39, 3) := dk_180 0 39 (dk_at dksX5_advance_2 4 rfl rfl)
theorem dX5_advance_53 : decode cX5_advance 53 = .ok (.aload_n 0, 1) := dk_42 (dk_at dksX5_advance_2 7 rfl rfl)
theorem dX5_advance_54 : decode cX5_advance 54 = .ok (.getfield 35, 3) := dk_180 0 35 (dk_at dksX5_advance_2 8 rfl rfl)
theorem dX5_advance_57 : decode cX5_advance 57 = .ok (.if_icmp .ne 11, 3) := dk_160 0 11 (dk_at dksX5_advance_2 11 rfl rfl)
theorem dX5_advance_60 : decode cX5_advance 60 = .ok (.aload_n 0, 1) := dk_42 (dk_at dksX5_advance_2 14 rfl rfl)
theorem dX5_advance_61 : decode cX5_advance 61 = .ok (.iconst 0, 1) := dk_3 (dk_at dksX5_advance_2 15 rfl rfl)
theorem dX5_advance_62 : decode cX5_advance 62 = .ok (.putfield 57, 3) := dk_181 0 57 (dk_at dksX5_advance_2 16 rfl rfl)
theorem dX5_advance_65 : decode cX5_advance 65 = .ok (.goto 235, 3) := dk_167 0 235 (dk_at dksX5_advance_2 19 rfl rfl)
theorem dX5_advance_68 : decode cX5_advance 68 = .ok (.aload_n 0, 1) := dk_42 (dk_at dksX5_advance_2 22 rfl rfl)
theorem dX5_advance_69 : decode cX5_advance 69 = .ok (.bipush 97, 2) := dk_16 97 (dk_at dksX5_advance_3 0 rfl rfl)
theorem dX5_advance_71 : decode cX5_advance 71 = .ok (.bipush 122, 2) := dk_16 122 (dk_at dksX5_advance_3 2 rfl rfl)
theorem dX5_advance_73 : decode cX5_advance 73 = .ok (.invokevirtual 50, 3) := dk_182 0 50 (dk_at dksX5_advance_3 4 rfl rfl)
theorem dX5_advance_76 : decode cX5_advance 76 = .ok (.ifCond .eq 82, 3) := dk_153 0 82 (dk_at dksX5_advance_3 7 rfl rfl)
theorem dX5_advance_79 : decode cX5_advance 79 = .ok (.new 60, 3) := dk_187 0 60 (dk_at dksX5_advance_3 10 rfl rfl)
theorem dX5_advance_82 : decode cX5_advance 82 = .ok (.dup, 1) := dk_89 (dk_at dksX5_advance_3 13 rfl rfl)
theorem dX5_advance_83 : decode cX5_advance 83 = .ok (.invokespecial 62, 3) := dk_183 0 62 (dk_at dksX5_advance_3 14 rfl rfl)
theorem dX5_advance_86 : decode cX5_advance 86 = .ok (.astore_n 1, 1) := dk_76 (dk_at dksX5_advance_3 17 rfl rfl)
theorem dX5_advance_87 : decode cX5_advance 87 = .ok (.aload_n 0, 1) := dk_42 (dk_at dksX5_advance_3 18 rfl rfl)
theorem dX5_advance_88 : decode cX5_advance 88 = .ok (.bipush 97, 2) := dk_16 97 (dk_at dksX5_advance_3 19 rfl rfl)
theorem dX5_advance_90 : decode cX5_advance 90 = .ok (.bipush 122, 2) := dk_16 122 (dk_at dksX5_advance_3 21 rfl rfl)
theorem dX5_advance_92 : decode cX5_advance 92 = .ok (.invokevirtual 50, 3) := dk_182 0 50 (dk_at dksX5_advance_4 0 rfl rfl)
theorem dX5_advance_95 : decode cX5_advance 95 = .ok (.ifCond .eq 34, 3) := dk_153 0 34 (dk_at dksX5_advance_4 3 rfl rfl)
theorem dX5_advance_98 : decode cX5_advance 98 = .ok (.aload_n 1, 1) := dk_43 (dk_at dksX5_advance_4 6 rfl rfl)
theorem dX5_advance_99 : decode cX5_advance 99 = .ok (.aload_n 0, 1) := dk_42 (dk_at dksX5_advance_4 7 rfl rfl)
theorem dX5_advance_100 : decode cX5_advance 100 = .ok (.getfield 3, 3) := dk_180 0 3 (dk_at dksX5_advance_4 8 rfl rfl)
theorem dX5_advance_103 : decode cX5_advance 103 = .ok (.getfield 42, 3) := dk_180 0 42 (dk_at dksX5_advance_4 11 rfl rfl)
theorem dX5_advance_106 : decode cX5_advance 106 = .ok (.aload_n 0, 1) := dk_42 (dk_at dksX5_advance_4 14 rfl rfl)
theorem dX5_advance_107 : decode cX5_advance 107 = .ok (.getfield 39, 3) := dk_180 0 39 (dk_at dksX5_advance_4 15 rfl rfl)
theorem dX5_advance_110 : decode cX5_advance 110 = .ok (.baload, 1) := dk_51 (dk_at dksX5_advance_4 18 rfl rfl)
theorem dX5_advance_111 : decode cX5_advance 111 = .ok (.i2c, 1) := dk_146 (dk_at dksX5_advance_4 19 rfl rfl)
theorem dX5_advance_112 : decode cX5_advance 112 = .ok (.invokevirtual 63, 3) := dk_182 0 63 (dk_at dksX5_advance_4 20 rfl rfl)
theorem dX5_advance_115 : decode cX5_advance 115 = .ok (.pop, 1) := dk_87 (dk_at dksX5_advance_4 23 rfl rfl)
theorem dX5_advance_116 : decode cX5_advance 116 = .ok (.aload_n 0, 1) := dk_42 (dk_at dksX5_advance_5 0 rfl rfl)
theorem dX5_advance_117 : decode cX5_advance 117 = .ok (.dup, 1) := dk_89 (dk_at dksX5_advance_5 1 rfl rfl)
theorem dX5_advance_118 : decode cX5_advance 118 = .ok (.getfield 39, 3) := dk_180 0 39 (dk_at dksX5_advance_5 2 rfl rfl)
theorem dX5_advance_121 : decode cX5_advance 121 = .ok (.iconst 1, 1) := dk_4 (dk_at dksX5_advance_5 5 rfl rfl)
theorem dX5_advance_122 : decode cX5_advance 122 = .ok (.iadd, 1) := dk_96 (dk_at dksX5_advance_5 6 rfl rfl)
theorem dX5_advance_123 : decode cX5_advance 123 = .ok (.putfield 39, 3) := dk_181 0 39 (dk_at dksX5_advance_5 7 rfl rfl)
theorem dX5_advance_126 : decode cX5_advance 126 = .ok (.goto (-39), 3) := dk_167 255 217 (dk_at dksX5_advance_5 10 rfl rfl)
theorem dX5_advance_129 : decode cX5_advance 129 = .ok (.aload_n 0, 1) := dk_42 (dk_at dksX5_advance_5 13 rfl rfl)
theorem dX5_advance_130 : decode cX5_advance 130 = .ok (.aload_n 1, 1) := dk_43 (dk_at dksX5_advance_5 14 rfl rfl)
theorem dX5_advance_131 : decode cX5_advance 131 = .ok (.invokevirtual 67, 3) := dk_182 0 67 (dk_at dksX5_advance_5 15 rfl rfl)
theorem dX5_advance_134 : decode cX5_advance 134 = .ok (.putfield 31, 3) := dk_181 0 31 (dk_at dksX5_advance_5 18 rfl rfl)
theorem dX5_advance_137 : decode cX5_advance 137 = .ok (.aload_n 0, 1) := dk_42 (dk_at dksX5_advance_5 21 rfl rfl)
theorem dX5_advance_138 : decode cX5_advance 138 = .ok (.aload_n 1, 1) := dk_43 (dk_at dksX5_advance_5 22 rfl rfl)
theorem dX5_advance_139 : decode cX5_advance 139 = .ok (.invokevirtual 71, 3) := dk_182 0 71 (dk_at dksX5_advance_6 0 rfl rfl)
theorem dX5_advance_142 : decode cX5_advance 142 = .ok (.bipush 8, 2) := dk_16 8 (dk_at dksX5_advance_6 3 rfl rfl)
theorem dX5_advance_144 : decode cX5_advance 144 = .ok (.if_icmp .le 7, 3) := dk_164 0 7 (dk_at dksX5_advance_6 5 rfl rfl)
theorem dX5_advance_147 : decode cX5_advance 147 = .ok (.iconst 1, 1) := dk_4 (dk_at dksX5_advance_6 8 rfl rfl)
theorem dX5_advance_148 : decode cX5_advance 148 = .ok (.goto 4, 3) := dk_167 0 4 (dk_at dksX5_advance_6 9 rfl rfl)
theorem dX5_advance_151 : decode cX5_advance 151 = .ok (.iconst 2, 1) := dk_5 (dk_at dksX5_advance_6 12 rfl rfl)
theorem dX5_advance_152 : decode cX5_advance 152 = .ok (.putfield 57, 3) := dk_181 0 57 (dk_at dksX5_advance_6 13 rfl rfl)
theorem dX5_advance_155 : decode cX5_advance 155 = .ok (.goto 145, 3) := dk_167 0 145 (dk_at dksX5_advance_6 16 rfl rfl)
theorem dX5_advance_158 : decode cX5_advance 158 = .ok (.aload_n 0, 1) := dk_42 (dk_at dksX5_advance_6 19 rfl rfl)
theorem dX5_advance_159 : decode cX5_advance 159 = .ok (.bipush 48, 2) := dk_16 48 (dk_at dksX5_advance_6 20 rfl rfl)
theorem dX5_advance_161 : decode cX5_advance 161 = .ok (.bipush 57, 2) := dk_16 57 (dk_at dksX5_advance_6 22 rfl rfl)
theorem dX5_advance_163 : decode cX5_advance 163 = .ok (.invokevirtual 50, 3) := dk_182 0 50 (dk_at dksX5_advance_7 0 rfl rfl)
theorem dX5_advance_166 : decode cX5_advance 166 = .ok (.ifCond .eq 89, 3) := dk_153 0 89 (dk_at dksX5_advance_7 3 rfl rfl)
theorem dX5_advance_169 : decode cX5_advance 169 = .ok (.aload_n 0, 1) := dk_42 (dk_at dksX5_advance_7 6 rfl rfl)
theorem dX5_advance_170 : decode cX5_advance 170 = .ok (.iconst 0, 1) := dk_3 (dk_at dksX5_advance_7 7 rfl rfl)
theorem dX5_advance_171 : decode cX5_advance 171 = .ok (.putfield 75, 3) := dk_181 0 75 (dk_at dksX5_advance_7 8 rfl rfl)
theorem dX5_advance_174 : decode cX5_advance 174 = .ok (.aload_n 0, 1) := dk_42 (dk_at dksX5_advance_7 11 rfl rfl)
theorem dX5_advance_175 : decode cX5_advance 175 = .ok (.bipush 48, 2) := dk_16 48 (dk_at dksX5_advance_7 12 rfl rfl)
theorem dX5_advance_177 : decode cX5_advance 177 = .ok (.bipush 57, 2) := dk_16 57 (dk_at dksX5_advance_7 14 rfl rfl)
theorem dX5_advance_179 : decode cX5_advance 179 = .ok (.invokevirtual 50, 3) := dk_182 0 50 (dk_at dksX5_advance_7 16 rfl rfl)
theorem dX5_advance_182 : decode cX5_advance 182 = .ok (.ifCond .eq 48, 3) := dk_153 0 48 (dk_at dksX5_advance_7 19 rfl rfl)
theorem dX5_advance_185 : decode cX5_advance 185 = .ok (.aload_n 0, 1) := dk_42 (dk_at dksX5_advance_7 22 rfl rfl)
theorem dX5_advance_186 : decode cX5_advance 186 = .ok (.ldc 78, 2) := dk_18 78 (dk_at dksX5_advance_8 0 rfl rfl)
theorem dX5_advance_188 : decode cX5_advance 188 = .ok (.bipush 10, 2) := dk_16 10 (dk_at dksX5_advance_8 2 rfl rfl)
theorem dX5_advance_190 : decode cX5_advance 190 = .ok (.aload_n 0, 1) := dk_42 (dk_at dksX5_advance_8 4 rfl rfl)
theorem dX5_advance_191 : decode cX5_advance 191 = .ok (.getfield 75, 3) := dk_180 0 75 (dk_at dksX5_advance_8 5 rfl rfl)
theorem dX5_advance_194 : decode cX5_advance 194 = .ok (.imul, 1) := dk_104 (dk_at dksX5_advance_8 8 rfl rfl)
theorem dX5_advance_195 : decode cX5_advance 195 = .ok (.aload_n 0, 1) := dk_42 (dk_at dksX5_advance_8 9 rfl rfl)
theorem dX5_advance_196 : decode cX5_advance 196 = .ok (.getfield 3, 3) := dk_180 0 3 (dk_at dksX5_advance_8 10 rfl rfl)
theorem dX5_advance_199 : decode cX5_advance 199 = .ok (.getfield 42, 3) := dk_180 0 42 (dk_at dksX5_advance_8 13 rfl rfl)
theorem dX5_advance_202 : decode cX5_advance 202 = .ok (.aload_n 0, 1) := dk_42 (dk_at dksX5_advance_8 16 rfl rfl)
theorem dX5_advance_203 : decode cX5_advance 203 = .ok (.getfield 39, 3) := dk_180 0 39 (dk_at dksX5_advance_8 17 rfl rfl)
theorem dX5_advance_206 : decode cX5_advance 206 = .ok (.baload, 1) := dk_51 (dk_at dksX5_advance_8 20 rfl rfl)
theorem dX5_advance_207 : decode cX5_advance 207 = .ok (.iadd, 1) := dk_96 (dk_at dksX5_advance_8 21 rfl rfl)
theorem dX5_advance_208 : decode cX5_advance 208 = .ok (.bipush 48, 2) := dk_16 48 (dk_at dksX5_advance_8 22 rfl rfl)
theorem dX5_advance_210 : decode cX5_advance 210 = .ok (.isub, 1) := dk_100 (dk_at dksX5_advance_9 0 rfl rfl)
theorem dX5_advance_211 : decode cX5_advance 211 = .ok (.invokestatic 79, 3) := dk_184 0 79 (dk_at dksX5_advance_9 1 rfl rfl)
theorem dX5_advance_214 : decode cX5_advance 214 = .ok (.putfield 75, 3) := dk_181 0 75 (dk_at dksX5_advance_9 4 rfl rfl)
theorem dX5_advance_217 : decode cX5_advance 217 = .ok (.aload_n 0, 1) := dk_42 (dk_at dksX5_advance_9 7 rfl rfl)
theorem dX5_advance_218 : decode cX5_advance 218 = .ok (.dup, 1) := dk_89 (dk_at dksX5_advance_9 8 rfl rfl)
theorem dX5_advance_219 : decode cX5_advance 219 = .ok (.getfield 39, 3) := dk_180 0 39 (dk_at dksX5_advance_9 9 rfl rfl)
theorem dX5_advance_222 : decode cX5_advance 222 = .ok (.iconst 1, 1) := dk_4 (dk_at dksX5_advance_9 12 rfl rfl)
theorem dX5_advance_223 : decode cX5_advance 223 = .ok (.iadd, 1) := dk_96 (dk_at dksX5_advance_9 13 rfl rfl)
theorem dX5_advance_224 : decode cX5_advance 224 = .ok (.putfield 39, 3) := dk_181 0 39 (dk_at dksX5_advance_9 14 rfl rfl)
theorem dX5_advance_227 : decode cX5_advance 227 = .ok (.goto (-53), 3) := dk_167 255 203 (dk_at dksX5_advance_9 17 rfl rfl)
theorem dX5_advance_230 : decode cX5_advance 230 = .ok (.aload_n 0, 1) := dk_42 (dk_at dksX5_advance_9 20 rfl rfl)
theorem dX5_advance_231 : decode cX5_advance 231 = .ok (.aload_n 0, 1) := dk_42 (dk_at dksX5_advance_9 21 rfl rfl)
theorem dX5_advance_232 : decode cX5_advance 232 = .ok (.getfield 39, 3) := dk_180 0 39 (dk_at dksX5_advance_10 0 rfl rfl)
theorem dX5_advance_235 : decode cX5_advance 235 = .ok (.aload_n 0, 1) := dk_42 (dk_at dksX5_advance_10 3 rfl rfl)
theorem dX5_advance_236 : decode cX5_advance 236 = .ok (.getfield 54, 3) := dk_180 0 54 (dk_at dksX5_advance_10 4 rfl rfl)
theorem dX5_advance_239 : decode cX5_advance 239 = .ok (.isub, 1) := dk_100 (dk_at dksX5_advance_10 7 rfl rfl)
theorem dX5_advance_240 : decode cX5_advance 240 = .ok (.iconst 4, 1) := dk_7 (dk_at dksX5_advance_10 8 rfl rfl)
theorem dX5_advance_241 : decode cX5_advance 241 = .ok (.if_icmp .le 7, 3) := dk_164 0 7 (dk_at dksX5_advance_10 9 rfl rfl)
theorem dX5_advance_244 : decode cX5_advance 244 = .ok (.iconst 1, 1) := dk_4 (dk_at dksX5_advance_10 12 rfl rfl)
theorem dX5_advance_245 : decode cX5_advance 245 = .ok (.goto 4, 3) := dk_167 0 4 (dk_at dksX5_advance_10 13 rfl rfl)
theorem dX5_advance_248 : decode cX5_advance 248 = .ok (.iconst 3, 1) := dk_6 (dk_at dksX5_advance_10 16 rfl rfl)
theorem dX5_advance_249 : decode cX5_advance 249 = .ok (.putfield 57, 3) := dk_181 0 57 (dk_at dksX5_advance_10 17 rfl rfl)
theorem dX5_advance_252 : decode cX5_advance 252 = .ok (.goto 48, 3) := dk_167 0 48 (dk_at dksX5_advance_10 20 rfl rfl)
theorem dX5_advance_255 : decode cX5_advance 255 = .ok (.aload_n 0, 1) := dk_42 (dk_at dksX5_advance_10 23 rfl rfl)
theorem dX5_advance_256 : decode cX5_advance 256 = .ok (.aload_n 0, 1) := dk_42 (dk_at dksX5_advance_11 0 rfl rfl)
theorem dX5_advance_257 : decode cX5_advance 257 = .ok (.bipush 59, 2) := dk_16 59 (dk_at dksX5_advance_11 1 rfl rfl)
theorem dX5_advance_259 : decode cX5_advance 259 = .ok (.bipush 59, 2) := dk_16 59 (dk_at dksX5_advance_11 3 rfl rfl)
theorem dX5_advance_261 : decode cX5_advance 261 = .ok (.invokevirtual 50, 3) := dk_182 0 50 (dk_at dksX5_advance_11 5 rfl rfl)
theorem dX5_advance_264 : decode cX5_advance 264 = .ok (.ifCond .eq 7, 3) := dk_153 0 7 (dk_at dksX5_advance_11 8 rfl rfl)
theorem dX5_advance_267 : decode cX5_advance 267 = .ok (.iconst 4, 1) := dk_7 (dk_at dksX5_advance_11 11 rfl rfl)
theorem dX5_advance_268 : decode cX5_advance 268 = .ok (.goto 19, 3) := dk_167 0 19 (dk_at dksX5_advance_11 12 rfl rfl)
theorem dX5_advance_271 : decode cX5_advance 271 = .ok (.aload_n 0, 1) := dk_42 (dk_at dksX5_advance_11 15 rfl rfl)
theorem dX5_advance_272 : decode cX5_advance 272 = .ok (.bipush 45, 2) := dk_16 45 (dk_at dksX5_advance_11 16 rfl rfl)
theorem dX5_advance_274 : decode cX5_advance 274 = .ok (.bipush 45, 2) := dk_16 45 (dk_at dksX5_advance_11 18 rfl rfl)
theorem dX5_advance_276 : decode cX5_advance 276 = .ok (.invokevirtual 50, 3) := dk_182 0 50 (dk_at dksX5_advance_11 20 rfl rfl)
theorem dX5_advance_279 : decode cX5_advance 279 = .ok (.ifCond .eq 7, 3) := dk_153 0 7 (dk_at dksX5_advance_12 0 rfl rfl)
theorem dX5_advance_282 : decode cX5_advance 282 = .ok (.iconst 5, 1) := dk_8 (dk_at dksX5_advance_12 3 rfl rfl)
theorem dX5_advance_283 : decode cX5_advance 283 = .ok (.goto 4, 3) := dk_167 0 4 (dk_at dksX5_advance_12 4 rfl rfl)
theorem dX5_advance_286 : decode cX5_advance 286 = .ok (.iconst 1, 1) := dk_4 (dk_at dksX5_advance_12 7 rfl rfl)
theorem dX5_advance_287 : decode cX5_advance 287 = .ok (.putfield 57, 3) := dk_181 0 57 (dk_at dksX5_advance_12 8 rfl rfl)
theorem dX5_advance_290 : decode cX5_advance 290 = .ok (.aload_n 0, 1) := dk_42 (dk_at dksX5_advance_12 11 rfl rfl)
theorem dX5_advance_291 : decode cX5_advance 291 = .ok (.dup, 1) := dk_89 (dk_at dksX5_advance_12 12 rfl rfl)
theorem dX5_advance_292 : decode cX5_advance 292 = .ok (.getfield 39, 3) := dk_180 0 39 (dk_at dksX5_advance_12 13 rfl rfl)
theorem dX5_advance_295 : decode cX5_advance 295 = .ok (.iconst 1, 1) := dk_4 (dk_at dksX5_advance_12 16 rfl rfl)
theorem dX5_advance_296 : decode cX5_advance 296 = .ok (.iadd, 1) := dk_96 (dk_at dksX5_advance_12 17 rfl rfl)
theorem dX5_advance_297 : decode cX5_advance 297 = .ok (.putfield 39, 3) := dk_181 0 39 (dk_at dksX5_advance_12 18 rfl rfl)
theorem dX5_advance_300 : decode cX5_advance 300 = .ok (.return_, 1) := dk_177 (dk_at dksX5_advance_12 21 rfl rfl)
abbrev cX5_isNext : ByteArray := prog_9_method_2_code
def yX5_isNext : MethodName := ⟨RX5, "isNext", "(II)Z"⟩
def dkwX5_isNext_1 : List UInt8 := [27, 133, 28, 133, 184, 0, 46, 153, 0, 7, 4, 167, 0, 4, 3, 172]
abbrev dktX5_isNext_1 : List UInt8 := dkwX5_isNext_1 ++ []
def dkwX5_isNext_0 : List UInt8 := [42, 180, 0, 39, 42, 180, 0, 35, 162, 0, 30, 42, 180, 0, 3, 180, 0, 42, 42, 180, 0, 39, 51, 133]
abbrev dktX5_isNext_0 : List UInt8 := dkwX5_isNext_0 ++ dktX5_isNext_1
theorem dksX5_isNext_0 : cX5_isNext.data.toList.drop 0 = dktX5_isNext_0 := by decide +kernel
theorem dksX5_isNext_1 : cX5_isNext.data.toList.drop 24 = dktX5_isNext_1 := dk_seg dksX5_isNext_0 24 rfl rfl
theorem dX5_isNext_0 : decode cX5_isNext 0 = .ok (.aload_n 0, 1) := dk_42 (dk_at dksX5_isNext_0 0 rfl rfl)
theorem dX5_isNext_1 : decode cX5_isNext 1 = .ok (.getfield 39, 3) := dk_180 0 39 (dk_at dksX5_isNext_0 1 rfl rfl)
theorem dX5_isNext_4 : decode cX5_isNext 4 = .ok (.aload_n 0, 1) := dk_42 (dk_at dksX5_isNext_0 4 rfl rfl)
theorem dX5_isNext_5 : decode cX5_isNext 5 = .ok (.getfield 35, 3) := dk_180 0 35 (dk_at dksX5_isNext_0 5 rfl rfl)
theorem dX5_isNext_8 : decode cX5_isNext 8 = .ok (.if_icmp .ge 30, 3) := dk_162 0 30 (dk_at dksX5_isNext_0 8 rfl rfl)
theorem dX5_isNext_11 : decode cX5_isNext 11 = .ok (.aload_n 0, 1) := dk_42 (dk_at dksX5_isNext_0 11 rfl rfl)
theorem dX5_isNext_12 : decode cX5_isNext 12 = .ok (.getfield 3, 3) := dk_180 0 3 (dk_at dksX5_isNext_0 12 rfl rfl)
theorem dX5_isNext_15 : decode cX5_isNext 15 = .ok (.getfield 42, 3) := dk_180 0 42 (dk_at dksX5_isNext_0 15 rfl rfl)
theorem dX5_isNext_18 : decode cX5_isNext 18 = .ok (.aload_n 0, 1) := dk_42 (dk_at dksX5_isNext_0 18 rfl rfl)
theorem dX5_isNext_19 : decode cX5_isNext 19 = .ok (.getfield 39, 3) := dk_180 0 39 (dk_at dksX5_isNext_0 19 rfl rfl)
theorem dX5_isNext_22 : decode cX5_isNext 22 = .ok (.baload, 1) := dk_51 (dk_at dksX5_isNext_0 22 rfl rfl)
theorem dX5_isNext_23 : decode cX5_isNext 23 = .ok (.i2l, 1) := dk_133 (dk_at dksX5_isNext_0 23 rfl rfl)
theorem dX5_isNext_24 : decode cX5_isNext 24 = .ok (.iload_n 1, 1) := dk_27 (dk_at dksX5_isNext_1 0 rfl rfl)
theorem dX5_isNext_25 : decode cX5_isNext 25 = .ok (.i2l, 1) := dk_133 (dk_at dksX5_isNext_1 1 rfl rfl)
theorem dX5_isNext_26 : decode cX5_isNext 26 = .ok (.iload_n 2, 1) := dk_28 (dk_at dksX5_isNext_1 2 rfl rfl)
theorem dX5_isNext_27 : decode cX5_isNext 27 = .ok (.i2l, 1) := dk_133 (dk_at dksX5_isNext_1 3 rfl rfl)
theorem dX5_isNext_28 : decode cX5_isNext 28 = .ok (.invokestatic 46, 3) := dk_184 0 46 (dk_at dksX5_isNext_1 4 rfl rfl)
theorem dX5_isNext_31 : decode cX5_isNext 31 = .ok (.ifCond .eq 7, 3) := dk_153 0 7 (dk_at dksX5_isNext_1 7 rfl rfl)
theorem dX5_isNext_34 : decode cX5_isNext 34 = .ok (.iconst 1, 1) := dk_4 (dk_at dksX5_isNext_1 10 rfl rfl)
theorem dX5_isNext_35 : decode cX5_isNext 35 = .ok (.goto 4, 3) := dk_167 0 4 (dk_at dksX5_isNext_1 11 rfl rfl)
theorem dX5_isNext_38 : decode cX5_isNext 38 = .ok (.iconst 0, 1) := dk_3 (dk_at dksX5_isNext_1 14 rfl rfl)
theorem dX5_isNext_39 : decode cX5_isNext 39 = .ok (.ireturn, 1) := dk_172 (dk_at dksX5_isNext_1 15 rfl rfl)
abbrev cX5_statement : ByteArray := prog_9_method_10_code
def yX5_statement : MethodName := ⟨RX5, "statement", "()V"⟩
def dkwX5_statement_13 : List UInt8 := [17, 1, 244, 182, 0, 95, 183, 0, 158, 182, 0, 161, 87, 167, 0, 8, 42, 3, 182, 0, 88, 177]
abbrev dktX5_statement_13 : List UInt8 := dkwX5_statement_13 ++ []
def dkwX5_statement_12 : List UInt8 := [4, 16, 9, 182, 0, 95, 54, 4, 42, 180, 0, 25, 180, 0, 153, 187, 0, 156, 89, 29, 21, 4, 42, 3]
abbrev dktX5_statement_12 : List UInt8 := dkwX5_statement_12 ++ dktX5_statement_13
def dkwX5_statement_11 : List UInt8 := [162, 0, 7, 4, 167, 0, 4, 3, 182, 0, 88, 42, 182, 0, 92, 42, 4, 16, 9, 182, 0, 95, 62, 42]
abbrev dktX5_statement_11 : List UInt8 := dkwX5_statement_11 ++ dktX5_statement_12
def dkwX5_statement_10 : List UInt8 := [182, 0, 92, 42, 182, 0, 150, 167, 0, 84, 42, 42, 180, 0, 25, 180, 0, 153, 182, 0, 101, 7]
abbrev dktX5_statement_10 : List UInt8 := dkwX5_statement_10 ++ dktX5_statement_11
def dkwX5_statement_9 : List UInt8 := [180, 0, 25, 180, 0, 147, 182, 0, 101, 16, 6, 162, 0, 7, 4, 167, 0, 4, 3, 182, 0, 88, 42]
abbrev dktX5_statement_9 : List UInt8 := dkwX5_statement_9 ++ dktX5_statement_10
def dkwX5_statement_8 : List UInt8 := [162, 0, 7, 4, 167, 0, 4, 3, 182, 0, 88, 42, 182, 0, 92, 42, 182, 0, 144, 167, 0, 119, 42, 42]
abbrev dktX5_statement_8 : List UInt8 := dkwX5_statement_8 ++ dktX5_statement_9
def dkwX5_statement_7 : List UInt8 := [182, 0, 92, 42, 182, 0, 138, 167, 0, 154, 42, 42, 180, 0, 25, 180, 0, 141, 182, 0, 101, 16, 20]
abbrev dktX5_statement_7 : List UInt8 := dkwX5_statement_7 ++ dktX5_statement_8
def dkwX5_statement_6 : List UInt8 := [42, 42, 180, 0, 25, 180, 0, 97, 182, 0, 101, 7, 162, 0, 7, 4, 167, 0, 4, 3, 182, 0, 88, 42]
abbrev dktX5_statement_6 : List UInt8 := dkwX5_statement_6 ++ dktX5_statement_7
def dkwX5_statement_5 : List UInt8 := [170, 0, 0, 0, 0, 210, 0, 0, 0, 0, 0, 0, 0, 3, 0, 0, 0, 30, 0, 0, 0, 64, 0, 0, 0, 99, 0, 0, 0, 134]
abbrev dktX5_statement_5 : List UInt8 := dkwX5_statement_5 ++ dktX5_statement_6
def dkwX5_statement_4 : List UInt8 := [153, 0, 5, 6, 61, 28]
abbrev dktX5_statement_4 : List UInt8 := dkwX5_statement_4 ++ dktX5_statement_5
def dkwX5_statement_3 : List UInt8 := [61, 167, 0, 28, 43, 18, 134, 182, 0, 112, 153, 0, 19, 5, 61, 167, 0, 14, 43, 18, 136, 182, 0, 112]
abbrev dktX5_statement_3 : List UInt8 := dkwX5_statement_3 ++ dktX5_statement_4
def dkwX5_statement_2 : List UInt8 := [43, 18, 130, 182, 0, 112, 153, 0, 47, 3, 61, 167, 0, 42, 43, 18, 132, 182, 0, 112, 153, 0, 33, 4]
abbrev dktX5_statement_2 : List UInt8 := dkwX5_statement_2 ++ dktX5_statement_3
def dkwX5_statement_1 : List UInt8 := [171, 0, 0, 0, 94, 0, 0, 0, 4, 0, 1, 130, 51, 0, 0, 0, 55, 0, 45, 231, 161, 0, 0, 0, 41, 0, 52, 100, 17, 0, 0, 0, 83, 0, 55, 145, 202, 0, 0, 0, 69]
abbrev dktX5_statement_1 : List UInt8 := dkwX5_statement_1 ++ dktX5_statement_2
def dkwX5_statement_0 : List UInt8 := [42, 180, 0, 31, 76, 2, 61, 43, 182, 0, 127]
abbrev dktX5_statement_0 : List UInt8 := dkwX5_statement_0 ++ dktX5_statement_1
theorem dksX5_statement_0 : cX5_statement.data.toList.drop 0 = dktX5_statement_0 := by decide +kernel
theorem dksX5_statement_1 : cX5_statement.data.toList.drop 11 = dktX5_statement_1 := dk_seg dksX5_statement_0 11 rfl rfl
theorem dksX5_statement_2 : cX5_statement.data.toList.drop 52 = dktX5_statement_2 := dk_seg dksX5_statement_1 41 rfl rfl
theorem dksX5_statement_3 : cX5_statement.data.toList.drop 76 = dktX5_statement_3 := dk_seg dksX5_statement_2 24 rfl rfl
theorem dksX5_statement_4 : cX5_statement.data.toList.drop 100 = dktX5_statement_4 := dk_seg dksX5_statement_3 24 rfl rfl
theorem dksX5_statement_5 : cX5_statement.data.toList.drop 106 = dktX5_statement_5 := dk_seg dksX5_statement_4 6 rfl rfl
theorem dksX5_statement_6 : cX5_statement.data.toList.drop 136 = dktX5_statement_6 := dk_seg dksX5_statement_5 30 rfl rfl
theorem dksX5_statement_7 : cX5_statement.data.toList.drop 160 = dktX5_statement_7 := dk_seg dksX5_statement_6 24 rfl rfl
theorem dksX5_statement_8 : cX5_statement.data.toList.drop 183 = dktX5_statement_8 := dk_seg dksX5_statement_7 23 rfl rfl
theorem dksX5_statement_9 : cX5_statement.data.toList.drop 207 = dktX5_statement_9 := dk_seg dksX5_statement_8 24 rfl rfl
theorem dksX5_statement_10 : cX5_statement.data.toList.drop 230 = dktX5_statement_10 := dk_seg dksX5_statement_9 23 rfl rfl
theorem dksX5_statement_11 : cX5_statement.data.toList.drop 252 = dktX5_statement_11 := dk_seg dksX5_statement_10 22 rfl rfl
theorem dksX5_statement_12 : cX5_statement.data.toList.drop 276 = dktX5_statement_12 := dk_seg dksX5_statement_11 24 rfl rfl
theorem dksX5_statement_13 : cX5_statement.data.toList.drop 300 = dktX5_statement_13 := dk_seg dksX5_statement_12 24 rfl rfl
theorem dX5_statement_0 : decode cX5_statement 0 = .ok (.aload_n 0, 1) := dk_42 (dk_at dksX5_statement_0 0 rfl rfl)
theorem dX5_statement_1 : decode cX5_statement 1 = .ok (.getfield 31, 3) := dk_180 0 31 (dk_at dksX5_statement_0 1 rfl rfl)
theorem dX5_statement_4 : decode cX5_statement 4 = .ok (.astore_n 1, 1) := dk_76 (dk_at dksX5_statement_0 4 rfl rfl)
theorem dX5_statement_5 : decode cX5_statement 5 = .ok (.iconst (-1), 1) := dk_2 (dk_at dksX5_statement_0 5 rfl rfl)
theorem dX5_statement_6 : decode cX5_statement 6 = .ok (.istore_n 2, 1) := dk_61 (dk_at dksX5_statement_0 6 rfl rfl)
theorem dX5_statement_7 : decode cX5_statement 7 = .ok (.aload_n 1, 1) := dk_43 (dk_at dksX5_statement_0 7 rfl rfl)
theorem dX5_statement_8 : decode cX5_statement 8 = .ok (.invokevirtual 127, 3) := dk_182 0 127 (dk_at dksX5_statement_0 8 rfl rfl)
theorem dX5_statement_11 : decode cX5_statement 11 = .ok (.lookupswitch 94 #[(98867, 55), (3008417, 41), (3433489, 83), (3641802, 69)], 41) := by decide +kernel
theorem dX5_statement_52 : decode cX5_statement 52 = .ok (.aload_n 1, 1) := dk_43 (dk_at dksX5_statement_2 0 rfl rfl)
theorem dX5_statement_53 : decode cX5_statement 53 = .ok (.ldc 130, 2) := dk_18 130 (dk_at dksX5_statement_2 1 rfl rfl)
theorem dX5_statement_55 : decode cX5_statement 55 = .ok (.invokevirtual 112, 3) := dk_182 0 112 (dk_at dksX5_statement_2 3 rfl rfl)
theorem dX5_statement_58 : decode cX5_statement 58 = .ok (.ifCond .eq 47, 3) := dk_153 0 47 (dk_at dksX5_statement_2 6 rfl rfl)
theorem dX5_statement_61 : decode cX5_statement 61 = .ok (.iconst 0, 1) := dk_3 (dk_at dksX5_statement_2 9 rfl rfl)
theorem dX5_statement_62 : decode cX5_statement 62 = .ok (.istore_n 2, 1) := dk_61 (dk_at dksX5_statement_2 10 rfl rfl)
theorem dX5_statement_63 : decode cX5_statement 63 = .ok (.goto 42, 3) := dk_167 0 42 (dk_at dksX5_statement_2 11 rfl rfl)
theorem dX5_statement_66 : decode cX5_statement 66 = .ok (.aload_n 1, 1) := dk_43 (dk_at dksX5_statement_2 14 rfl rfl)
theorem dX5_statement_67 : decode cX5_statement 67 = .ok (.ldc 132, 2) := dk_18 132 (dk_at dksX5_statement_2 15 rfl rfl)
theorem dX5_statement_69 : decode cX5_statement 69 = .ok (.invokevirtual 112, 3) := dk_182 0 112 (dk_at dksX5_statement_2 17 rfl rfl)
theorem dX5_statement_72 : decode cX5_statement 72 = .ok (.ifCond .eq 33, 3) := dk_153 0 33 (dk_at dksX5_statement_2 20 rfl rfl)
theorem dX5_statement_75 : decode cX5_statement 75 = .ok (.iconst 1, 1) := dk_4 (dk_at dksX5_statement_2 23 rfl rfl)
theorem dX5_statement_76 : decode cX5_statement 76 = .ok (.istore_n 2, 1) := dk_61 (dk_at dksX5_statement_3 0 rfl rfl)
theorem dX5_statement_77 : decode cX5_statement 77 = .ok (.goto 28, 3) := dk_167 0 28 (dk_at dksX5_statement_3 1 rfl rfl)
theorem dX5_statement_80 : decode cX5_statement 80 = .ok (.aload_n 1, 1) := dk_43 (dk_at dksX5_statement_3 4 rfl rfl)
theorem dX5_statement_81 : decode cX5_statement 81 = .ok (.ldc 134, 2) := dk_18 134 (dk_at dksX5_statement_3 5 rfl rfl)
theorem dX5_statement_83 : decode cX5_statement 83 = .ok (.invokevirtual 112, 3) := dk_182 0 112 (dk_at dksX5_statement_3 7 rfl rfl)
theorem dX5_statement_86 : decode cX5_statement 86 = .ok (.ifCond .eq 19, 3) := dk_153 0 19 (dk_at dksX5_statement_3 10 rfl rfl)
theorem dX5_statement_89 : decode cX5_statement 89 = .ok (.iconst 2, 1) := dk_5 (dk_at dksX5_statement_3 13 rfl rfl)
theorem dX5_statement_90 : decode cX5_statement 90 = .ok (.istore_n 2, 1) := dk_61 (dk_at dksX5_statement_3 14 rfl rfl)
theorem dX5_statement_91 : decode cX5_statement 91 = .ok (.goto 14, 3) := dk_167 0 14 (dk_at dksX5_statement_3 15 rfl rfl)
theorem dX5_statement_94 : decode cX5_statement 94 = .ok (.aload_n 1, 1) := dk_43 (dk_at dksX5_statement_3 18 rfl rfl)
theorem dX5_statement_95 : decode cX5_statement 95 = .ok (.ldc 136, 2) := dk_18 136 (dk_at dksX5_statement_3 19 rfl rfl)
theorem dX5_statement_97 : decode cX5_statement 97 = .ok (.invokevirtual 112, 3) := dk_182 0 112 (dk_at dksX5_statement_3 21 rfl rfl)
theorem dX5_statement_100 : decode cX5_statement 100 = .ok (.ifCond .eq 5, 3) := dk_153 0 5 (dk_at dksX5_statement_4 0 rfl rfl)
theorem dX5_statement_103 : decode cX5_statement 103 = .ok (.iconst 3, 1) := dk_6 (dk_at dksX5_statement_4 3 rfl rfl)
theorem dX5_statement_104 : decode cX5_statement 104 = .ok (.istore_n 2, 1) := dk_61 (dk_at dksX5_statement_4 4 rfl rfl)
theorem dX5_statement_105 : decode cX5_statement 105 = .ok (.iload_n 2, 1) := dk_28 (dk_at dksX5_statement_4 5 rfl rfl)
theorem dX5_statement_106 : decode cX5_statement 106 = .ok (.tableswitch 210 0 3 #[30, 64, 99, 134], 30) := by decide +kernel
theorem dX5_statement_136 : decode cX5_statement 136 = .ok (.aload_n 0, 1) := dk_42 (dk_at dksX5_statement_6 0 rfl rfl)
theorem dX5_statement_137 : decode cX5_statement 137 = .ok (.aload_n 0, 1) := dk_42 (dk_at dksX5_statement_6 1 rfl rfl)
theorem dX5_statement_138 : decode cX5_statement 138 = .ok (.getfield 25, 3) := dk_180 0 25 (dk_at dksX5_statement_6 2 rfl rfl)
theorem dX5_statement_141 : decode cX5_statement 141 = .ok (.getfield 97, 3) := dk_180 0 97 (dk_at dksX5_statement_6 5 rfl rfl)
theorem dX5_statement_144 : decode cX5_statement 144 = .ok (.invokevirtual 101, 3) := dk_182 0 101 (dk_at dksX5_statement_6 8 rfl rfl)
theorem dX5_statement_147 : decode cX5_statement 147 = .ok (.iconst 4, 1) := dk_7 (dk_at dksX5_statement_6 11 rfl rfl)
theorem dX5_statement_148 : decode cX5_statement 148 = .ok (.if_icmp .ge 7, 3) := dk_162 0 7 (dk_at dksX5_statement_6 12 rfl rfl)
theorem dX5_statement_151 : decode cX5_statement 151 = .ok (.iconst 1, 1) := dk_4 (dk_at dksX5_statement_6 15 rfl rfl)
theorem dX5_statement_152 : decode cX5_statement 152 = .ok (.goto 4, 3) := dk_167 0 4 (dk_at dksX5_statement_6 16 rfl rfl)
theorem dX5_statement_155 : decode cX5_statement 155 = .ok (.iconst 0, 1) := dk_3 (dk_at dksX5_statement_6 19 rfl rfl)
theorem dX5_statement_156 : decode cX5_statement 156 = .ok (.invokevirtual 88, 3) := dk_182 0 88 (dk_at dksX5_statement_6 20 rfl rfl)
theorem dX5_statement_159 : decode cX5_statement 159 = .ok (.aload_n 0, 1) := dk_42 (dk_at dksX5_statement_6 23 rfl rfl)
theorem dX5_statement_160 : decode cX5_statement 160 = .ok (.invokevirtual 92, 3) := dk_182 0 92 (dk_at dksX5_statement_7 0 rfl rfl)
theorem dX5_statement_163 : decode cX5_statement 163 = .ok (.aload_n 0, 1) := dk_42 (dk_at dksX5_statement_7 3 rfl rfl)
theorem dX5_statement_164 : decode cX5_statement 164 = .ok (.invokevirtual 138, 3) := dk_182 0 138 (dk_at dksX5_statement_7 4 rfl rfl)
theorem dX5_statement_167 : decode cX5_statement 167 = .ok (.goto 154, 3) := dk_167 0 154 (dk_at dksX5_statement_7 7 rfl rfl)
theorem dX5_statement_170 : decode cX5_statement 170 = .ok (.aload_n 0, 1) := dk_42 (dk_at dksX5_statement_7 10 rfl rfl)
theorem dX5_statement_171 : decode cX5_statement 171 = .ok (.aload_n 0, 1) := dk_42 (dk_at dksX5_statement_7 11 rfl rfl)
theorem dX5_statement_172 : decode cX5_statement 172 = .ok (.getfield 25, 3) := dk_180 0 25 (dk_at dksX5_statement_7 12 rfl rfl)
theorem dX5_statement_175 : decode cX5_statement 175 = .ok (.getfield 141, 3) := dk_180 0 141 (dk_at dksX5_statement_7 15 rfl rfl)
theorem dX5_statement_178 : decode cX5_statement 178 = .ok (.invokevirtual 101, 3) := dk_182 0 101 (dk_at dksX5_statement_7 18 rfl rfl)
theorem dX5_statement_181 : decode cX5_statement 181 = .ok (.bipush 20, 2) := dk_16 20 (dk_at dksX5_statement_7 21 rfl rfl)
theorem dX5_statement_183 : decode cX5_statement 183 = .ok (.if_icmp .ge 7, 3) := dk_162 0 7 (dk_at dksX5_statement_8 0 rfl rfl)
theorem dX5_statement_186 : decode cX5_statement 186 = .ok (.iconst 1, 1) := dk_4 (dk_at dksX5_statement_8 3 rfl rfl)
theorem dX5_statement_187 : decode cX5_statement 187 = .ok (.goto 4, 3) := dk_167 0 4 (dk_at dksX5_statement_8 4 rfl rfl)
theorem dX5_statement_190 : decode cX5_statement 190 = .ok (.iconst 0, 1) := dk_3 (dk_at dksX5_statement_8 7 rfl rfl)
theorem dX5_statement_191 : decode cX5_statement 191 = .ok (.invokevirtual 88, 3) := dk_182 0 88 (dk_at dksX5_statement_8 8 rfl rfl)
theorem dX5_statement_194 : decode cX5_statement 194 = .ok (.aload_n 0, 1) := dk_42 (dk_at dksX5_statement_8 11 rfl rfl)
theorem dX5_statement_195 : decode cX5_statement 195 = .ok (.invokevirtual 92, 3) := dk_182 0 92 (dk_at dksX5_statement_8 12 rfl rfl)
theorem dX5_statement_198 : decode cX5_statement 198 = .ok (.aload_n 0, 1) := dk_42 (dk_at dksX5_statement_8 15 rfl rfl)
theorem dX5_statement_199 : decode cX5_statement 199 = .ok (.invokevirtual 144, 3) := dk_182 0 144 (dk_at dksX5_statement_8 16 rfl rfl)
theorem dX5_statement_202 : decode cX5_statement 202 = .ok (.goto 119, 3) := dk_167 0 119 (dk_at dksX5_statement_8 19 rfl rfl)
theorem dX5_statement_205 : decode cX5_statement 205 = .ok (.aload_n 0, 1) := dk_42 (dk_at dksX5_statement_8 22 rfl rfl)
theorem dX5_statement_206 : decode cX5_statement 206 = .ok (.aload_n 0, 1) := dk_42 (dk_at dksX5_statement_8 23 rfl rfl)
theorem dX5_statement_207 : decode cX5_statement 207 = .ok (.getfield 25, 3) := dk_180 0 25 (dk_at dksX5_statement_9 0 rfl rfl)
theorem dX5_statement_210 : decode cX5_statement 210 = .ok (.getfield 147, 3) := dk_180 0 147 (dk_at dksX5_statement_9 3 rfl rfl)
theorem dX5_statement_213 : decode cX5_statement 213 = .ok (.invokevirtual 101, 3) := dk_182 0 101 (dk_at dksX5_statement_9 6 rfl rfl)
theorem dX5_statement_216 : decode cX5_statement 216 = .ok (.bipush 6, 2) := dk_16 6 (dk_at dksX5_statement_9 9 rfl rfl)
theorem dX5_statement_218 : decode cX5_statement 218 = .ok (.if_icmp .ge 7, 3) := dk_162 0 7 (dk_at dksX5_statement_9 11 rfl rfl)
theorem dX5_statement_221 : decode cX5_statement 221 = .ok (.iconst 1, 1) := dk_4 (dk_at dksX5_statement_9 14 rfl rfl)
theorem dX5_statement_222 : decode cX5_statement 222 = .ok (.goto 4, 3) := dk_167 0 4 (dk_at dksX5_statement_9 15 rfl rfl)
theorem dX5_statement_225 : decode cX5_statement 225 = .ok (.iconst 0, 1) := dk_3 (dk_at dksX5_statement_9 18 rfl rfl)
theorem dX5_statement_226 : decode cX5_statement 226 = .ok (.invokevirtual 88, 3) := dk_182 0 88 (dk_at dksX5_statement_9 19 rfl rfl)
theorem dX5_statement_229 : decode cX5_statement 229 = .ok (.aload_n 0, 1) := dk_42 (dk_at dksX5_statement_9 22 rfl rfl)
theorem dX5_statement_230 : decode cX5_statement 230 = .ok (.invokevirtual 92, 3) := dk_182 0 92 (dk_at dksX5_statement_10 0 rfl rfl)
theorem dX5_statement_233 : decode cX5_statement 233 = .ok (.aload_n 0, 1) := dk_42 (dk_at dksX5_statement_10 3 rfl rfl)
theorem dX5_statement_234 : decode cX5_statement 234 = .ok (.invokevirtual 150, 3) := dk_182 0 150 (dk_at dksX5_statement_10 4 rfl rfl)
theorem dX5_statement_237 : decode cX5_statement 237 = .ok (.goto 84, 3) := dk_167 0 84 (dk_at dksX5_statement_10 7 rfl rfl)
theorem dX5_statement_240 : decode cX5_statement 240 = .ok (.aload_n 0, 1) := dk_42 (dk_at dksX5_statement_10 10 rfl rfl)
theorem dX5_statement_241 : decode cX5_statement 241 = .ok (.aload_n 0, 1) := dk_42 (dk_at dksX5_statement_10 11 rfl rfl)
theorem dX5_statement_242 : decode cX5_statement 242 = .ok (.getfield 25, 3) := dk_180 0 25 (dk_at dksX5_statement_10 12 rfl rfl)
theorem dX5_statement_245 : decode cX5_statement 245 = .ok (.getfield 153, 3) := dk_180 0 153 (dk_at dksX5_statement_10 15 rfl rfl)
theorem dX5_statement_248 : decode cX5_statement 248 = .ok (.invokevirtual 101, 3) := dk_182 0 101 (dk_at dksX5_statement_10 18 rfl rfl)
theorem dX5_statement_251 : decode cX5_statement 251 = .ok (.iconst 4, 1) := dk_7 (dk_at dksX5_statement_10 21 rfl rfl)
theorem dX5_statement_252 : decode cX5_statement 252 = .ok (.if_icmp .ge 7, 3) := dk_162 0 7 (dk_at dksX5_statement_11 0 rfl rfl)
theorem dX5_statement_255 : decode cX5_statement 255 = .ok (.iconst 1, 1) := dk_4 (dk_at dksX5_statement_11 3 rfl rfl)
theorem dX5_statement_256 : decode cX5_statement 256 = .ok (.goto 4, 3) := dk_167 0 4 (dk_at dksX5_statement_11 4 rfl rfl)
theorem dX5_statement_259 : decode cX5_statement 259 = .ok (.iconst 0, 1) := dk_3 (dk_at dksX5_statement_11 7 rfl rfl)
theorem dX5_statement_260 : decode cX5_statement 260 = .ok (.invokevirtual 88, 3) := dk_182 0 88 (dk_at dksX5_statement_11 8 rfl rfl)
theorem dX5_statement_263 : decode cX5_statement 263 = .ok (.aload_n 0, 1) := dk_42 (dk_at dksX5_statement_11 11 rfl rfl)
theorem dX5_statement_264 : decode cX5_statement 264 = .ok (.invokevirtual 92, 3) := dk_182 0 92 (dk_at dksX5_statement_11 12 rfl rfl)
theorem dX5_statement_267 : decode cX5_statement 267 = .ok (.aload_n 0, 1) := dk_42 (dk_at dksX5_statement_11 15 rfl rfl)
theorem dX5_statement_268 : decode cX5_statement 268 = .ok (.iconst 1, 1) := dk_4 (dk_at dksX5_statement_11 16 rfl rfl)
theorem dX5_statement_269 : decode cX5_statement 269 = .ok (.bipush 9, 2) := dk_16 9 (dk_at dksX5_statement_11 17 rfl rfl)
theorem dX5_statement_271 : decode cX5_statement 271 = .ok (.invokevirtual 95, 3) := dk_182 0 95 (dk_at dksX5_statement_11 19 rfl rfl)
theorem dX5_statement_274 : decode cX5_statement 274 = .ok (.istore_n 3, 1) := dk_62 (dk_at dksX5_statement_11 22 rfl rfl)
theorem dX5_statement_275 : decode cX5_statement 275 = .ok (.aload_n 0, 1) := dk_42 (dk_at dksX5_statement_11 23 rfl rfl)
theorem dX5_statement_276 : decode cX5_statement 276 = .ok (.iconst 1, 1) := dk_4 (dk_at dksX5_statement_12 0 rfl rfl)
theorem dX5_statement_277 : decode cX5_statement 277 = .ok (.bipush 9, 2) := dk_16 9 (dk_at dksX5_statement_12 1 rfl rfl)
theorem dX5_statement_279 : decode cX5_statement 279 = .ok (.invokevirtual 95, 3) := dk_182 0 95 (dk_at dksX5_statement_12 3 rfl rfl)
theorem dX5_statement_282 : decode cX5_statement 282 = .ok (.istore 4, 2) := dk_54 4 (dk_at dksX5_statement_12 6 rfl rfl)
theorem dX5_statement_284 : decode cX5_statement 284 = .ok (.aload_n 0, 1) := dk_42 (dk_at dksX5_statement_12 8 rfl rfl)
theorem dX5_statement_285 : decode cX5_statement 285 = .ok (.getfield 25, 3) := dk_180 0 25 (dk_at dksX5_statement_12 9 rfl rfl)
theorem dX5_statement_288 : decode cX5_statement 288 = .ok (.getfield 153, 3) := dk_180 0 153 (dk_at dksX5_statement_12 12 rfl rfl)
theorem dX5_statement_291 : decode cX5_statement 291 = .ok (.new 156, 3) := dk_187 0 156 (dk_at dksX5_statement_12 15 rfl rfl)
theorem dX5_statement_294 : decode cX5_statement 294 = .ok (.dup, 1) := dk_89 (dk_at dksX5_statement_12 18 rfl rfl)
theorem dX5_statement_295 : decode cX5_statement 295 = .ok (.iload_n 3, 1) := dk_29 (dk_at dksX5_statement_12 19 rfl rfl)
theorem dX5_statement_296 : decode cX5_statement 296 = .ok (.iload 4, 2) := dk_21 4 (dk_at dksX5_statement_12 20 rfl rfl)
theorem dX5_statement_298 : decode cX5_statement 298 = .ok (.aload_n 0, 1) := dk_42 (dk_at dksX5_statement_12 22 rfl rfl)
theorem dX5_statement_299 : decode cX5_statement 299 = .ok (.iconst 0, 1) := dk_3 (dk_at dksX5_statement_12 23 rfl rfl)
theorem dX5_statement_300 : decode cX5_statement 300 = .ok (.sipush 500, 3) := dk_17 1 244 (dk_at dksX5_statement_13 0 rfl rfl)
theorem dX5_statement_303 : decode cX5_statement 303 = .ok (.invokevirtual 95, 3) := dk_182 0 95 (dk_at dksX5_statement_13 3 rfl rfl)
theorem dX5_statement_306 : decode cX5_statement 306 = .ok (.invokespecial 158, 3) := dk_183 0 158 (dk_at dksX5_statement_13 6 rfl rfl)
theorem dX5_statement_309 : decode cX5_statement 309 = .ok (.invokevirtual 161, 3) := dk_182 0 161 (dk_at dksX5_statement_13 9 rfl rfl)
theorem dX5_statement_312 : decode cX5_statement 312 = .ok (.pop, 1) := dk_87 (dk_at dksX5_statement_13 12 rfl rfl)
theorem dX5_statement_313 : decode cX5_statement 313 = .ok (.goto 8, 3) := dk_167 0 8 (dk_at dksX5_statement_13 13 rfl rfl)
theorem dX5_statement_316 : decode cX5_statement 316 = .ok (.aload_n 0, 1) := dk_42 (dk_at dksX5_statement_13 16 rfl rfl)
theorem dX5_statement_317 : decode cX5_statement 317 = .ok (.iconst 0, 1) := dk_3 (dk_at dksX5_statement_13 17 rfl rfl)
theorem dX5_statement_318 : decode cX5_statement 318 = .ok (.invokevirtual 88, 3) := dk_182 0 88 (dk_at dksX5_statement_13 18 rfl rfl)
theorem dX5_statement_321 : decode cX5_statement 321 = .ok (.return_, 1) := dk_177 (dk_at dksX5_statement_13 21 rfl rfl)
abbrev cX5_require : ByteArray := prog_9_method_4_code
def yX5_require : MethodName := ⟨RX5, "require", "(Z)V"⟩
def dkwX5_require_0 : List UInt8 := [27, 154, 0, 15, 187, 0, 85, 89, 42, 180, 0, 54, 183, 0, 87, 191, 177]
abbrev dktX5_require_0 : List UInt8 := dkwX5_require_0 ++ []
theorem dksX5_require_0 : cX5_require.data.toList.drop 0 = dktX5_require_0 := by decide +kernel
theorem dX5_require_0 : decode cX5_require 0 = .ok (.iload_n 1, 1) := dk_27 (dk_at dksX5_require_0 0 rfl rfl)
theorem dX5_require_1 : decode cX5_require 1 = .ok (.ifCond .ne 15, 3) := dk_154 0 15 (dk_at dksX5_require_0 1 rfl rfl)
theorem dX5_require_4 : decode cX5_require 4 = .ok (.new 85, 3) := dk_187 0 85 (dk_at dksX5_require_0 4 rfl rfl)
theorem dX5_require_7 : decode cX5_require 7 = .ok (.dup, 1) := dk_89 (dk_at dksX5_require_0 7 rfl rfl)
theorem dX5_require_8 : decode cX5_require 8 = .ok (.aload_n 0, 1) := dk_42 (dk_at dksX5_require_0 8 rfl rfl)
theorem dX5_require_9 : decode cX5_require 9 = .ok (.getfield 54, 3) := dk_180 0 54 (dk_at dksX5_require_0 9 rfl rfl)
theorem dX5_require_12 : decode cX5_require 12 = .ok (.invokespecial 87, 3) := dk_183 0 87 (dk_at dksX5_require_0 12 rfl rfl)
theorem dX5_require_15 : decode cX5_require 15 = .ok (.athrow, 1) := dk_191 (dk_at dksX5_require_0 15 rfl rfl)
theorem dX5_require_16 : decode cX5_require 16 = .ok (.return_, 1) := dk_177 (dk_at dksX5_require_0 16 rfl rfl)
abbrev cX5_addAxis : ByteArray := prog_9_method_11_code
def yX5_addAxis : MethodName := ⟨RX5, "addAxis", "()V"⟩
def dkwX5_addAxis_4 : List UInt8 := [182, 0, 164, 183, 0, 167, 182, 0, 161, 87, 177]
abbrev dktX5_addAxis_4 : List UInt8 := dkwX5_addAxis_4 ++ []
def dkwX5_addAxis_3 : List UInt8 := [54, 5, 42, 180, 0, 25, 180, 0, 97, 187, 0, 107, 89, 43, 28, 29, 21, 4, 21, 5, 42, 28, 29]
abbrev dktX5_addAxis_3 : List UInt8 := dkwX5_addAxis_3 ++ dktX5_addAxis_4
def dkwX5_addAxis_2 : List UInt8 := [28, 17, 39, 15, 182, 0, 164, 62, 42, 4, 16, 99, 182, 0, 95, 54, 4, 42, 4, 16, 20, 182, 0, 95]
abbrev dktX5_addAxis_2 : List UInt8 := dkwX5_addAxis_2 ++ dktX5_addAxis_3
def dkwX5_addAxis_1 : List UInt8 := [182, 0, 88, 42, 180, 0, 31, 76, 42, 182, 0, 92, 42, 17, 216, 241, 17, 39, 15, 182, 0, 164, 61, 42]
abbrev dktX5_addAxis_1 : List UInt8 := dkwX5_addAxis_1 ++ dktX5_addAxis_2
def dkwX5_addAxis_0 : List UInt8 := [42, 42, 180, 0, 57, 5, 160, 0, 15, 42, 182, 0, 118, 2, 160, 0, 7, 4, 167, 0, 4, 3]
abbrev dktX5_addAxis_0 : List UInt8 := dkwX5_addAxis_0 ++ dktX5_addAxis_1
theorem dksX5_addAxis_0 : cX5_addAxis.data.toList.drop 0 = dktX5_addAxis_0 := by decide +kernel
theorem dksX5_addAxis_1 : cX5_addAxis.data.toList.drop 22 = dktX5_addAxis_1 := dk_seg dksX5_addAxis_0 22 rfl rfl
theorem dksX5_addAxis_2 : cX5_addAxis.data.toList.drop 46 = dktX5_addAxis_2 := dk_seg dksX5_addAxis_1 24 rfl rfl
theorem dksX5_addAxis_3 : cX5_addAxis.data.toList.drop 70 = dktX5_addAxis_3 := dk_seg dksX5_addAxis_2 24 rfl rfl
theorem dksX5_addAxis_4 : cX5_addAxis.data.toList.drop 93 = dktX5_addAxis_4 := dk_seg dksX5_addAxis_3 23 rfl rfl
theorem dX5_addAxis_0 : decode cX5_addAxis 0 = .ok (.aload_n 0, 1) := dk_42 (dk_at dksX5_addAxis_0 0 rfl rfl)
theorem dX5_addAxis_1 : decode cX5_addAxis 1 = .ok (.aload_n 0, 1) := dk_42 (dk_at dksX5_addAxis_0 1 rfl rfl)
theorem dX5_addAxis_2 : decode cX5_addAxis 2 = .ok (.getfield 57, 3) := dk_180 0 57 (dk_at dksX5_addAxis_0 2 rfl rfl)
theorem dX5_addAxis_5 : decode cX5_addAxis 5 = .ok (.iconst 2, 1) := dk_5 (dk_at dksX5_addAxis_0 5 rfl rfl)
theorem dX5_addAxis_6 : decode cX5_addAxis 6 = .ok (.if_icmp .ne 15, 3) := dk_160 0 15 (dk_at dksX5_addAxis_0 6 rfl rfl)
theorem dX5_addAxis_9 : decode cX5_addAxis 9 = .ok (.aload_n 0, 1) := dk_42 (dk_at dksX5_addAxis_0 9 rfl rfl)
theorem dX5_addAxis_10 : decode cX5_addAxis 10 = .ok (.invokevirtual 118, 3) := dk_182 0 118 (dk_at dksX5_addAxis_0 10 rfl rfl)
theorem dX5_addAxis_13 : decode cX5_addAxis 13 = .ok (.iconst (-1), 1) := dk_2 (dk_at dksX5_addAxis_0 13 rfl rfl)
theorem dX5_addAxis_14 : decode cX5_addAxis 14 = .ok (.if_icmp .ne 7, 3) := dk_160 0 7 (dk_at dksX5_addAxis_0 14 rfl rfl)
theorem dX5_addAxis_17 : decode cX5_addAxis 17 = .ok (.iconst 1, 1) := dk_4 (dk_at dksX5_addAxis_0 17 rfl rfl)
theorem dX5_addAxis_18 : decode cX5_addAxis 18 = .ok (.goto 4, 3) := dk_167 0 4 (dk_at dksX5_addAxis_0 18 rfl rfl)
theorem dX5_addAxis_21 : decode cX5_addAxis 21 = .ok (.iconst 0, 1) := dk_3 (dk_at dksX5_addAxis_0 21 rfl rfl)
theorem dX5_addAxis_22 : decode cX5_addAxis 22 = .ok (.invokevirtual 88, 3) := dk_182 0 88 (dk_at dksX5_addAxis_1 0 rfl rfl)
theorem dX5_addAxis_25 : decode cX5_addAxis 25 = .ok (.aload_n 0, 1) := dk_42 (dk_at dksX5_addAxis_1 3 rfl rfl)
theorem dX5_addAxis_26 : decode cX5_addAxis 26 = .ok (.getfield 31, 3) := dk_180 0 31 (dk_at dksX5_addAxis_1 4 rfl rfl)
theorem dX5_addAxis_29 : decode cX5_addAxis 29 = .ok (.astore_n 1, 1) := dk_76 (dk_at dksX5_addAxis_1 7 rfl rfl)
theorem dX5_addAxis_30 : decode cX5_addAxis 30 = .ok (.aload_n 0, 1) := dk_42 (dk_at dksX5_addAxis_1 8 rfl rfl)
theorem dX5_addAxis_31 : decode cX5_addAxis 31 = .ok (.invokevirtual 92, 3) := dk_182 0 92 (dk_at dksX5_addAxis_1 9 rfl rfl)
theorem dX5_addAxis_34 : decode cX5_addAxis 34 = .ok (.aload_n 0, 1) := dk_42 (dk_at dksX5_addAxis_1 12 rfl rfl)
theorem dX5_addAxis_35 : decode cX5_addAxis 35 = .ok (.sipush (-9999), 3) := dk_17 216 241 (dk_at dksX5_addAxis_1 13 rfl rfl)
theorem dX5_addAxis_38 : decode cX5_addAxis 38 = .ok (.sipush 9999, 3) := dk_17 39 15 (dk_at dksX5_addAxis_1 16 rfl rfl)
theorem dX5_addAxis_41 : decode cX5_addAxis 41 = .ok (.invokevirtual 164, 3) := dk_182 0 164 (dk_at dksX5_addAxis_1 19 rfl rfl)
theorem dX5_addAxis_44 : decode cX5_addAxis 44 = .ok (.istore_n 2, 1) := dk_61 (dk_at dksX5_addAxis_1 22 rfl rfl)
theorem dX5_addAxis_45 : decode cX5_addAxis 45 = .ok (.aload_n 0, 1) := dk_42 (dk_at dksX5_addAxis_1 23 rfl rfl)
theorem dX5_addAxis_46 : decode cX5_addAxis 46 = .ok (.iload_n 2, 1) := dk_28 (dk_at dksX5_addAxis_2 0 rfl rfl)
theorem dX5_addAxis_47 : decode cX5_addAxis 47 = .ok (.sipush 9999, 3) := dk_17 39 15 (dk_at dksX5_addAxis_2 1 rfl rfl)
theorem dX5_addAxis_50 : decode cX5_addAxis 50 = .ok (.invokevirtual 164, 3) := dk_182 0 164 (dk_at dksX5_addAxis_2 4 rfl rfl)
theorem dX5_addAxis_53 : decode cX5_addAxis 53 = .ok (.istore_n 3, 1) := dk_62 (dk_at dksX5_addAxis_2 7 rfl rfl)
theorem dX5_addAxis_54 : decode cX5_addAxis 54 = .ok (.aload_n 0, 1) := dk_42 (dk_at dksX5_addAxis_2 8 rfl rfl)
theorem dX5_addAxis_55 : decode cX5_addAxis 55 = .ok (.iconst 1, 1) := dk_4 (dk_at dksX5_addAxis_2 9 rfl rfl)
theorem dX5_addAxis_56 : decode cX5_addAxis 56 = .ok (.bipush 99, 2) := dk_16 99 (dk_at dksX5_addAxis_2 10 rfl rfl)
theorem dX5_addAxis_58 : decode cX5_addAxis 58 = .ok (.invokevirtual 95, 3) := dk_182 0 95 (dk_at dksX5_addAxis_2 12 rfl rfl)
theorem dX5_addAxis_61 : decode cX5_addAxis 61 = .ok (.istore 4, 2) := dk_54 4 (dk_at dksX5_addAxis_2 15 rfl rfl)
theorem dX5_addAxis_63 : decode cX5_addAxis 63 = .ok (.aload_n 0, 1) := dk_42 (dk_at dksX5_addAxis_2 17 rfl rfl)
theorem dX5_addAxis_64 : decode cX5_addAxis 64 = .ok (.iconst 1, 1) := dk_4 (dk_at dksX5_addAxis_2 18 rfl rfl)
theorem dX5_addAxis_65 : decode cX5_addAxis 65 = .ok (.bipush 20, 2) := dk_16 20 (dk_at dksX5_addAxis_2 19 rfl rfl)
theorem dX5_addAxis_67 : decode cX5_addAxis 67 = .ok (.invokevirtual 95, 3) := dk_182 0 95 (dk_at dksX5_addAxis_2 21 rfl rfl)
theorem dX5_addAxis_70 : decode cX5_addAxis 70 = .ok (.istore 5, 2) := dk_54 5 (dk_at dksX5_addAxis_3 0 rfl rfl)
theorem dX5_addAxis_72 : decode cX5_addAxis 72 = .ok (.aload_n 0, 1) := dk_42 (dk_at dksX5_addAxis_3 2 rfl rfl)
theorem dX5_addAxis_73 : decode cX5_addAxis 73 = .ok (.getfield 25, 3) := dk_180 0 25 (dk_at dksX5_addAxis_3 3 rfl rfl)
theorem dX5_addAxis_76 : decode cX5_addAxis 76 = .ok (.getfield 97, 3) := dk_180 0 97 (dk_at dksX5_addAxis_3 6 rfl rfl)
theorem dX5_addAxis_79 : decode cX5_addAxis 79 = .ok (.new 107, 3) := dk_187 0 107 (dk_at dksX5_addAxis_3 9 rfl rfl)
theorem dX5_addAxis_82 : decode cX5_addAxis 82 = .ok (.dup, 1) := dk_89 (dk_at dksX5_addAxis_3 12 rfl rfl)
theorem dX5_addAxis_83 : decode cX5_addAxis 83 = .ok (.aload_n 1, 1) := dk_43 (dk_at dksX5_addAxis_3 13 rfl rfl)
theorem dX5_addAxis_84 : decode cX5_addAxis 84 = .ok (.iload_n 2, 1) := dk_28 (dk_at dksX5_addAxis_3 14 rfl rfl)
theorem dX5_addAxis_85 : decode cX5_addAxis 85 = .ok (.iload_n 3, 1) := dk_29 (dk_at dksX5_addAxis_3 15 rfl rfl)
theorem dX5_addAxis_86 : decode cX5_addAxis 86 = .ok (.iload 4, 2) := dk_21 4 (dk_at dksX5_addAxis_3 16 rfl rfl)
theorem dX5_addAxis_88 : decode cX5_addAxis 88 = .ok (.iload 5, 2) := dk_21 5 (dk_at dksX5_addAxis_3 18 rfl rfl)
theorem dX5_addAxis_90 : decode cX5_addAxis 90 = .ok (.aload_n 0, 1) := dk_42 (dk_at dksX5_addAxis_3 20 rfl rfl)
theorem dX5_addAxis_91 : decode cX5_addAxis 91 = .ok (.iload_n 2, 1) := dk_28 (dk_at dksX5_addAxis_3 21 rfl rfl)
theorem dX5_addAxis_92 : decode cX5_addAxis 92 = .ok (.iload_n 3, 1) := dk_29 (dk_at dksX5_addAxis_3 22 rfl rfl)
theorem dX5_addAxis_93 : decode cX5_addAxis 93 = .ok (.invokevirtual 164, 3) := dk_182 0 164 (dk_at dksX5_addAxis_4 0 rfl rfl)
theorem dX5_addAxis_96 : decode cX5_addAxis 96 = .ok (.invokespecial 167, 3) := dk_183 0 167 (dk_at dksX5_addAxis_4 3 rfl rfl)
theorem dX5_addAxis_99 : decode cX5_addAxis 99 = .ok (.invokevirtual 161, 3) := dk_182 0 161 (dk_at dksX5_addAxis_4 6 rfl rfl)
theorem dX5_addAxis_102 : decode cX5_addAxis 102 = .ok (.pop, 1) := dk_87 (dk_at dksX5_addAxis_4 9 rfl rfl)
theorem dX5_addAxis_103 : decode cX5_addAxis 103 = .ok (.return_, 1) := dk_177 (dk_at dksX5_addAxis_4 10 rfl rfl)
abbrev cX5_axisNamed : ByteArray := prog_9_method_7_code
def yX5_axisNamed : MethodName := ⟨RX5, "axisNamed", "()I"⟩
def dkwX5_axisNamed_2 : List UInt8 := [167, 255, 210, 2, 172]
abbrev dktX5_axisNamed_2 : List UInt8 := dkwX5_axisNamed_2 ++ []
def dkwX5_axisNamed_1 : List UInt8 := [182, 0, 103, 192, 0, 107, 180, 0, 109, 42, 180, 0, 31, 182, 0, 112, 153, 0, 5, 27, 172, 132, 1, 1]
abbrev dktX5_axisNamed_1 : List UInt8 := dkwX5_axisNamed_1 ++ dktX5_axisNamed_2
def dkwX5_axisNamed_0 : List UInt8 := [3, 60, 27, 42, 180, 0, 25, 180, 0, 97, 182, 0, 101, 162, 0, 38, 42, 180, 0, 25, 180, 0, 97, 27]
abbrev dktX5_axisNamed_0 : List UInt8 := dkwX5_axisNamed_0 ++ dktX5_axisNamed_1
theorem dksX5_axisNamed_0 : cX5_axisNamed.data.toList.drop 0 = dktX5_axisNamed_0 := by decide +kernel
theorem dksX5_axisNamed_1 : cX5_axisNamed.data.toList.drop 24 = dktX5_axisNamed_1 := dk_seg dksX5_axisNamed_0 24 rfl rfl
theorem dksX5_axisNamed_2 : cX5_axisNamed.data.toList.drop 48 = dktX5_axisNamed_2 := dk_seg dksX5_axisNamed_1 24 rfl rfl
theorem dX5_axisNamed_0 : decode cX5_axisNamed 0 = .ok (.iconst 0, 1) := dk_3 (dk_at dksX5_axisNamed_0 0 rfl rfl)
theorem dX5_axisNamed_1 : decode cX5_axisNamed 1 = .ok (.istore_n 1, 1) := dk_60 (dk_at dksX5_axisNamed_0 1 rfl rfl)
theorem dX5_axisNamed_2 : decode cX5_axisNamed 2 = .ok (.iload_n 1, 1) := dk_27 (dk_at dksX5_axisNamed_0 2 rfl rfl)
theorem dX5_axisNamed_3 : decode cX5_axisNamed 3 = .ok (.aload_n 0, 1) := dk_42 (dk_at dksX5_axisNamed_0 3 rfl rfl)
theorem dX5_axisNamed_4 : decode cX5_axisNamed 4 = .ok (.getfield 25, 3) := dk_180 0 25 (dk_at dksX5_axisNamed_0 4 rfl rfl)
theorem dX5_axisNamed_7 : decode cX5_axisNamed 7 = .ok (.getfield 97, 3) := dk_180 0 97 (dk_at dksX5_axisNamed_0 7 rfl rfl)
theorem dX5_axisNamed_10 : decode cX5_axisNamed 10 = .ok (.invokevirtual 101, 3) := dk_182 0 101 (dk_at dksX5_axisNamed_0 10 rfl rfl)
theorem dX5_axisNamed_13 : decode cX5_axisNamed 13 = .ok (.if_icmp .ge 38, 3) := dk_162 0 38 (dk_at dksX5_axisNamed_0 13 rfl rfl)
theorem dX5_axisNamed_16 : decode cX5_axisNamed 16 = .ok (.aload_n 0, 1) := dk_42 (dk_at dksX5_axisNamed_0 16 rfl rfl)
theorem dX5_axisNamed_17 : decode cX5_axisNamed 17 = .ok (.getfield 25, 3) := dk_180 0 25 (dk_at dksX5_axisNamed_0 17 rfl rfl)
theorem dX5_axisNamed_20 : decode cX5_axisNamed 20 = .ok (.getfield 97, 3) := dk_180 0 97 (dk_at dksX5_axisNamed_0 20 rfl rfl)
theorem dX5_axisNamed_23 : decode cX5_axisNamed 23 = .ok (.iload_n 1, 1) := dk_27 (dk_at dksX5_axisNamed_0 23 rfl rfl)
theorem dX5_axisNamed_24 : decode cX5_axisNamed 24 = .ok (.invokevirtual 103, 3) := dk_182 0 103 (dk_at dksX5_axisNamed_1 0 rfl rfl)
theorem dX5_axisNamed_27 : decode cX5_axisNamed 27 = .ok (.checkcast 107, 3) := dk_192 0 107 (dk_at dksX5_axisNamed_1 3 rfl rfl)
theorem dX5_axisNamed_30 : decode cX5_axisNamed 30 = .ok (.getfield 109, 3) := dk_180 0 109 (dk_at dksX5_axisNamed_1 6 rfl rfl)
theorem dX5_axisNamed_33 : decode cX5_axisNamed 33 = .ok (.aload_n 0, 1) := dk_42 (dk_at dksX5_axisNamed_1 9 rfl rfl)
theorem dX5_axisNamed_34 : decode cX5_axisNamed 34 = .ok (.getfield 31, 3) := dk_180 0 31 (dk_at dksX5_axisNamed_1 10 rfl rfl)
theorem dX5_axisNamed_37 : decode cX5_axisNamed 37 = .ok (.invokevirtual 112, 3) := dk_182 0 112 (dk_at dksX5_axisNamed_1 13 rfl rfl)
theorem dX5_axisNamed_40 : decode cX5_axisNamed 40 = .ok (.ifCond .eq 5, 3) := dk_153 0 5 (dk_at dksX5_axisNamed_1 16 rfl rfl)
theorem dX5_axisNamed_43 : decode cX5_axisNamed 43 = .ok (.iload_n 1, 1) := dk_27 (dk_at dksX5_axisNamed_1 19 rfl rfl)
theorem dX5_axisNamed_44 : decode cX5_axisNamed 44 = .ok (.ireturn, 1) := dk_172 (dk_at dksX5_axisNamed_1 20 rfl rfl)
theorem dX5_axisNamed_45 : decode cX5_axisNamed 45 = .ok (.iinc 1 1, 3) := dk_132 1 1 (dk_at dksX5_axisNamed_1 21 rfl rfl)
theorem dX5_axisNamed_48 : decode cX5_axisNamed 48 = .ok (.goto (-46), 3) := dk_167 255 210 (dk_at dksX5_axisNamed_2 0 rfl rfl)
theorem dX5_axisNamed_51 : decode cX5_axisNamed 51 = .ok (.iconst (-1), 1) := dk_2 (dk_at dksX5_axisNamed_2 3 rfl rfl)
theorem dX5_axisNamed_52 : decode cX5_axisNamed 52 = .ok (.ireturn, 1) := dk_172 (dk_at dksX5_axisNamed_2 4 rfl rfl)
abbrev cX5_signed : ByteArray := prog_9_method_6_code
def yX5_signed : MethodName := ⟨RX5, "signed", "(II)I"⟩
def dkwX5_signed_1 : List UInt8 := [182, 0, 95, 116, 172]
abbrev dktX5_signed_1 : List UInt8 := dkwX5_signed_1 ++ []
def dkwX5_signed_0 : List UInt8 := [42, 180, 0, 57, 8, 159, 0, 10, 42, 27, 28, 182, 0, 95, 172, 42, 182, 0, 92, 42, 28, 116, 27, 116]
abbrev dktX5_signed_0 : List UInt8 := dkwX5_signed_0 ++ dktX5_signed_1
theorem dksX5_signed_0 : cX5_signed.data.toList.drop 0 = dktX5_signed_0 := by decide +kernel
theorem dksX5_signed_1 : cX5_signed.data.toList.drop 24 = dktX5_signed_1 := dk_seg dksX5_signed_0 24 rfl rfl
theorem dX5_signed_0 : decode cX5_signed 0 = .ok (.aload_n 0, 1) := dk_42 (dk_at dksX5_signed_0 0 rfl rfl)
theorem dX5_signed_1 : decode cX5_signed 1 = .ok (.getfield 57, 3) := dk_180 0 57 (dk_at dksX5_signed_0 1 rfl rfl)
theorem dX5_signed_4 : decode cX5_signed 4 = .ok (.iconst 5, 1) := dk_8 (dk_at dksX5_signed_0 4 rfl rfl)
theorem dX5_signed_5 : decode cX5_signed 5 = .ok (.if_icmp .eq 10, 3) := dk_159 0 10 (dk_at dksX5_signed_0 5 rfl rfl)
theorem dX5_signed_8 : decode cX5_signed 8 = .ok (.aload_n 0, 1) := dk_42 (dk_at dksX5_signed_0 8 rfl rfl)
theorem dX5_signed_9 : decode cX5_signed 9 = .ok (.iload_n 1, 1) := dk_27 (dk_at dksX5_signed_0 9 rfl rfl)
theorem dX5_signed_10 : decode cX5_signed 10 = .ok (.iload_n 2, 1) := dk_28 (dk_at dksX5_signed_0 10 rfl rfl)
theorem dX5_signed_11 : decode cX5_signed 11 = .ok (.invokevirtual 95, 3) := dk_182 0 95 (dk_at dksX5_signed_0 11 rfl rfl)
theorem dX5_signed_14 : decode cX5_signed 14 = .ok (.ireturn, 1) := dk_172 (dk_at dksX5_signed_0 14 rfl rfl)
theorem dX5_signed_15 : decode cX5_signed 15 = .ok (.aload_n 0, 1) := dk_42 (dk_at dksX5_signed_0 15 rfl rfl)
theorem dX5_signed_16 : decode cX5_signed 16 = .ok (.invokevirtual 92, 3) := dk_182 0 92 (dk_at dksX5_signed_0 16 rfl rfl)
theorem dX5_signed_19 : decode cX5_signed 19 = .ok (.aload_n 0, 1) := dk_42 (dk_at dksX5_signed_0 19 rfl rfl)
theorem dX5_signed_20 : decode cX5_signed 20 = .ok (.iload_n 2, 1) := dk_28 (dk_at dksX5_signed_0 20 rfl rfl)
theorem dX5_signed_21 : decode cX5_signed 21 = .ok (.ineg, 1) := dk_116 (dk_at dksX5_signed_0 21 rfl rfl)
theorem dX5_signed_22 : decode cX5_signed 22 = .ok (.iload_n 1, 1) := dk_27 (dk_at dksX5_signed_0 22 rfl rfl)
theorem dX5_signed_23 : decode cX5_signed 23 = .ok (.ineg, 1) := dk_116 (dk_at dksX5_signed_0 23 rfl rfl)
theorem dX5_signed_24 : decode cX5_signed 24 = .ok (.invokevirtual 95, 3) := dk_182 0 95 (dk_at dksX5_signed_1 0 rfl rfl)
theorem dX5_signed_27 : decode cX5_signed 27 = .ok (.ineg, 1) := dk_116 (dk_at dksX5_signed_1 3 rfl rfl)
theorem dX5_signed_28 : decode cX5_signed 28 = .ok (.ireturn, 1) := dk_172 (dk_at dksX5_signed_1 4 rfl rfl)
abbrev cX5_number : ByteArray := prog_9_method_5_code
def yX5_number : MethodName := ⟨RX5, "number", "(II)I"⟩
def dkwX5_number_1 : List UInt8 := [4, 167, 0, 4, 3, 182, 0, 88, 42, 180, 0, 75, 62, 42, 182, 0, 92, 29, 172]
abbrev dktX5_number_1 : List UInt8 := dkwX5_number_1 ++ []
def dkwX5_number_0 : List UInt8 := [42, 42, 180, 0, 57, 6, 160, 0, 22, 42, 180, 0, 75, 133, 27, 133, 28, 133, 184, 0, 46, 153, 0, 7]
abbrev dktX5_number_0 : List UInt8 := dkwX5_number_0 ++ dktX5_number_1
theorem dksX5_number_0 : cX5_number.data.toList.drop 0 = dktX5_number_0 := by decide +kernel
theorem dksX5_number_1 : cX5_number.data.toList.drop 24 = dktX5_number_1 := dk_seg dksX5_number_0 24 rfl rfl
theorem dX5_number_0 : decode cX5_number 0 = .ok (.aload_n 0, 1) := dk_42 (dk_at dksX5_number_0 0 rfl rfl)
theorem dX5_number_1 : decode cX5_number 1 = .ok (.aload_n 0, 1) := dk_42 (dk_at dksX5_number_0 1 rfl rfl)
theorem dX5_number_2 : decode cX5_number 2 = .ok (.getfield 57, 3) := dk_180 0 57 (dk_at dksX5_number_0 2 rfl rfl)
theorem dX5_number_5 : decode cX5_number 5 = .ok (.iconst 3, 1) := dk_6 (dk_at dksX5_number_0 5 rfl rfl)
theorem dX5_number_6 : decode cX5_number 6 = .ok (.if_icmp .ne 22, 3) := dk_160 0 22 (dk_at dksX5_number_0 6 rfl rfl)
theorem dX5_number_9 : decode cX5_number 9 = .ok (.aload_n 0, 1) := dk_42 (dk_at dksX5_number_0 9 rfl rfl)
theorem dX5_number_10 : decode cX5_number 10 = .ok (.getfield 75, 3) := dk_180 0 75 (dk_at dksX5_number_0 10 rfl rfl)
theorem dX5_number_13 : decode cX5_number 13 = .ok (.i2l, 1) := dk_133 (dk_at dksX5_number_0 13 rfl rfl)
theorem dX5_number_14 : decode cX5_number 14 = .ok (.iload_n 1, 1) := dk_27 (dk_at dksX5_number_0 14 rfl rfl)
theorem dX5_number_15 : decode cX5_number 15 = .ok (.i2l, 1) := dk_133 (dk_at dksX5_number_0 15 rfl rfl)
theorem dX5_number_16 : decode cX5_number 16 = .ok (.iload_n 2, 1) := dk_28 (dk_at dksX5_number_0 16 rfl rfl)
theorem dX5_number_17 : decode cX5_number 17 = .ok (.i2l, 1) := dk_133 (dk_at dksX5_number_0 17 rfl rfl)
theorem dX5_number_18 : decode cX5_number 18 = .ok (.invokestatic 46, 3) := dk_184 0 46 (dk_at dksX5_number_0 18 rfl rfl)
theorem dX5_number_21 : decode cX5_number 21 = .ok (.ifCond .eq 7, 3) := dk_153 0 7 (dk_at dksX5_number_0 21 rfl rfl)
theorem dX5_number_24 : decode cX5_number 24 = .ok (.iconst 1, 1) := dk_4 (dk_at dksX5_number_1 0 rfl rfl)
theorem dX5_number_25 : decode cX5_number 25 = .ok (.goto 4, 3) := dk_167 0 4 (dk_at dksX5_number_1 1 rfl rfl)
theorem dX5_number_28 : decode cX5_number 28 = .ok (.iconst 0, 1) := dk_3 (dk_at dksX5_number_1 4 rfl rfl)
theorem dX5_number_29 : decode cX5_number 29 = .ok (.invokevirtual 88, 3) := dk_182 0 88 (dk_at dksX5_number_1 5 rfl rfl)
theorem dX5_number_32 : decode cX5_number 32 = .ok (.aload_n 0, 1) := dk_42 (dk_at dksX5_number_1 8 rfl rfl)
theorem dX5_number_33 : decode cX5_number 33 = .ok (.getfield 75, 3) := dk_180 0 75 (dk_at dksX5_number_1 9 rfl rfl)
theorem dX5_number_36 : decode cX5_number 36 = .ok (.istore_n 3, 1) := dk_62 (dk_at dksX5_number_1 12 rfl rfl)
theorem dX5_number_37 : decode cX5_number 37 = .ok (.aload_n 0, 1) := dk_42 (dk_at dksX5_number_1 13 rfl rfl)
theorem dX5_number_38 : decode cX5_number 38 = .ok (.invokevirtual 92, 3) := dk_182 0 92 (dk_at dksX5_number_1 14 rfl rfl)
theorem dX5_number_41 : decode cX5_number 41 = .ok (.iload_n 3, 1) := dk_29 (dk_at dksX5_number_1 17 rfl rfl)
theorem dX5_number_42 : decode cX5_number 42 = .ok (.ireturn, 1) := dk_172 (dk_at dksX5_number_1 18 rfl rfl)
abbrev cX5_addCue : ByteArray := prog_9_method_12_code
def yX5_addCue : MethodName := ⟨RX5, "addCue", "()V"⟩
def dkwX5_addCue_4 : List UInt8 := [167, 255, 189, 42, 180, 0, 25, 180, 0, 141, 44, 182, 0, 161, 87, 177]
abbrev dktX5_addCue_4 : List UInt8 := dkwX5_addCue_4 ++ []
def dkwX5_addCue_3 : List UInt8 := [42, 180, 0, 25, 180, 0, 97, 29, 182, 0, 103, 192, 0, 107, 180, 0, 183, 182, 0, 164, 182, 0, 186]
abbrev dktX5_addCue_3 : List UInt8 := dkwX5_addCue_3 ++ dktX5_addCue_4
def dkwX5_addCue_2 : List UInt8 := [182, 0, 177, 62, 44, 29, 42, 42, 180, 0, 25, 180, 0, 97, 29, 182, 0, 103, 192, 0, 107, 180, 0, 180]
abbrev dktX5_addCue_2 : List UInt8 := dkwX5_addCue_2 ++ dktX5_addCue_3
def dkwX5_addCue_1 : List UInt8 := [183, 0, 172, 77, 44, 180, 0, 175, 153, 0, 11, 42, 180, 0, 57, 5, 160, 0, 58, 42, 44, 180, 0, 175]
abbrev dktX5_addCue_1 : List UInt8 := dkwX5_addCue_1 ++ dktX5_addCue_2
def dkwX5_addCue_0 : List UInt8 := [42, 3, 17, 3, 230, 182, 0, 95, 60, 187, 0, 170, 89, 27, 42, 4, 17, 3, 231, 27, 100, 182, 0, 95]
abbrev dktX5_addCue_0 : List UInt8 := dkwX5_addCue_0 ++ dktX5_addCue_1
theorem dksX5_addCue_0 : cX5_addCue.data.toList.drop 0 = dktX5_addCue_0 := by decide +kernel
theorem dksX5_addCue_1 : cX5_addCue.data.toList.drop 24 = dktX5_addCue_1 := dk_seg dksX5_addCue_0 24 rfl rfl
theorem dksX5_addCue_2 : cX5_addCue.data.toList.drop 48 = dktX5_addCue_2 := dk_seg dksX5_addCue_1 24 rfl rfl
theorem dksX5_addCue_3 : cX5_addCue.data.toList.drop 72 = dktX5_addCue_3 := dk_seg dksX5_addCue_2 24 rfl rfl
theorem dksX5_addCue_4 : cX5_addCue.data.toList.drop 95 = dktX5_addCue_4 := dk_seg dksX5_addCue_3 23 rfl rfl
theorem dX5_addCue_0 : decode cX5_addCue 0 = .ok (.aload_n 0, 1) := dk_42 (dk_at dksX5_addCue_0 0 rfl rfl)
theorem dX5_addCue_1 : decode cX5_addCue 1 = .ok (.iconst 0, 1) := dk_3 (dk_at dksX5_addCue_0 1 rfl rfl)
theorem dX5_addCue_2 : decode cX5_addCue 2 = .ok (.sipush 998, 3) := dk_17 3 230 (dk_at dksX5_addCue_0 2 rfl rfl)
theorem dX5_addCue_5 : decode cX5_addCue 5 = .ok (.invokevirtual 95, 3) := dk_182 0 95 (dk_at dksX5_addCue_0 5 rfl rfl)
theorem dX5_addCue_8 : decode cX5_addCue 8 = .ok (.istore_n 1, 1) := dk_60 (dk_at dksX5_addCue_0 8 rfl rfl)
theorem dX5_addCue_9 : decode cX5_addCue 9 = .ok (.new 170, 3) := dk_187 0 170 (dk_at dksX5_addCue_0 9 rfl rfl)
theorem dX5_addCue_12 : decode cX5_addCue 12 = .ok (.dup, 1) := dk_89 (dk_at dksX5_addCue_0 12 rfl rfl)
theorem dX5_addCue_13 : decode cX5_addCue 13 = .ok (.iload_n 1, 1) := dk_27 (dk_at dksX5_addCue_0 13 rfl rfl)
theorem dX5_addCue_14 : decode cX5_addCue 14 = .ok (.aload_n 0, 1) := dk_42 (dk_at dksX5_addCue_0 14 rfl rfl)
theorem dX5_addCue_15 : decode cX5_addCue 15 = .ok (.iconst 1, 1) := dk_4 (dk_at dksX5_addCue_0 15 rfl rfl)
theorem dX5_addCue_16 : decode cX5_addCue 16 = .ok (.sipush 999, 3) := dk_17 3 231 (dk_at dksX5_addCue_0 16 rfl rfl)
theorem dX5_addCue_19 : decode cX5_addCue 19 = .ok (.iload_n 1, 1) := dk_27 (dk_at dksX5_addCue_0 19 rfl rfl)
theorem dX5_addCue_20 : decode cX5_addCue 20 = .ok (.isub, 1) := dk_100 (dk_at dksX5_addCue_0 20 rfl rfl)
theorem dX5_addCue_21 : decode cX5_addCue 21 = .ok (.invokevirtual 95, 3) := dk_182 0 95 (dk_at dksX5_addCue_0 21 rfl rfl)
theorem dX5_addCue_24 : decode cX5_addCue 24 = .ok (.invokespecial 172, 3) := dk_183 0 172 (dk_at dksX5_addCue_1 0 rfl rfl)
theorem dX5_addCue_27 : decode cX5_addCue 27 = .ok (.astore_n 2, 1) := dk_77 (dk_at dksX5_addCue_1 3 rfl rfl)
theorem dX5_addCue_28 : decode cX5_addCue 28 = .ok (.aload_n 2, 1) := dk_44 (dk_at dksX5_addCue_1 4 rfl rfl)
theorem dX5_addCue_29 : decode cX5_addCue 29 = .ok (.getfield 175, 3) := dk_180 0 175 (dk_at dksX5_addCue_1 5 rfl rfl)
theorem dX5_addCue_32 : decode cX5_addCue 32 = .ok (.ifCond .eq 11, 3) := dk_153 0 11 (dk_at dksX5_addCue_1 8 rfl rfl)
theorem dX5_addCue_35 : decode cX5_addCue 35 = .ok (.aload_n 0, 1) := dk_42 (dk_at dksX5_addCue_1 11 rfl rfl)
theorem dX5_addCue_36 : decode cX5_addCue 36 = .ok (.getfield 57, 3) := dk_180 0 57 (dk_at dksX5_addCue_1 12 rfl rfl)
theorem dX5_addCue_39 : decode cX5_addCue 39 = .ok (.iconst 2, 1) := dk_5 (dk_at dksX5_addCue_1 15 rfl rfl)
theorem dX5_addCue_40 : decode cX5_addCue 40 = .ok (.if_icmp .ne 58, 3) := dk_160 0 58 (dk_at dksX5_addCue_1 16 rfl rfl)
theorem dX5_addCue_43 : decode cX5_addCue 43 = .ok (.aload_n 0, 1) := dk_42 (dk_at dksX5_addCue_1 19 rfl rfl)
theorem dX5_addCue_44 : decode cX5_addCue 44 = .ok (.aload_n 2, 1) := dk_44 (dk_at dksX5_addCue_1 20 rfl rfl)
theorem dX5_addCue_45 : decode cX5_addCue 45 = .ok (.getfield 175, 3) := dk_180 0 175 (dk_at dksX5_addCue_1 21 rfl rfl)
theorem dX5_addCue_48 : decode cX5_addCue 48 = .ok (.invokevirtual 177, 3) := dk_182 0 177 (dk_at dksX5_addCue_2 0 rfl rfl)
theorem dX5_addCue_51 : decode cX5_addCue 51 = .ok (.istore_n 3, 1) := dk_62 (dk_at dksX5_addCue_2 3 rfl rfl)
theorem dX5_addCue_52 : decode cX5_addCue 52 = .ok (.aload_n 2, 1) := dk_44 (dk_at dksX5_addCue_2 4 rfl rfl)
theorem dX5_addCue_53 : decode cX5_addCue 53 = .ok (.iload_n 3, 1) := dk_29 (dk_at dksX5_addCue_2 5 rfl rfl)
theorem dX5_addCue_54 : decode cX5_addCue 54 = .ok (.aload_n 0, 1) := dk_42 (dk_at dksX5_addCue_2 6 rfl rfl)
theorem dX5_addCue_55 : decode cX5_addCue 55 = .ok (.aload_n 0, 1) := dk_42 (dk_at dksX5_addCue_2 7 rfl rfl)
theorem dX5_addCue_56 : decode cX5_addCue 56 = .ok (.getfield 25, 3) := dk_180 0 25 (dk_at dksX5_addCue_2 8 rfl rfl)
theorem dX5_addCue_59 : decode cX5_addCue 59 = .ok (.getfield 97, 3) := dk_180 0 97 (dk_at dksX5_addCue_2 11 rfl rfl)
theorem dX5_addCue_62 : decode cX5_addCue 62 = .ok (.iload_n 3, 1) := dk_29 (dk_at dksX5_addCue_2 14 rfl rfl)
theorem dX5_addCue_63 : decode cX5_addCue 63 = .ok (.invokevirtual 103, 3) := dk_182 0 103 (dk_at dksX5_addCue_2 15 rfl rfl)
theorem dX5_addCue_66 : decode cX5_addCue 66 = .ok (.checkcast 107, 3) := dk_192 0 107 (dk_at dksX5_addCue_2 18 rfl rfl)
theorem dX5_addCue_69 : decode cX5_addCue 69 = .ok (.getfield 180, 3) := dk_180 0 180 (dk_at dksX5_addCue_2 21 rfl rfl)
theorem dX5_addCue_72 : decode cX5_addCue 72 = .ok (.aload_n 0, 1) := dk_42 (dk_at dksX5_addCue_3 0 rfl rfl)
theorem dX5_addCue_73 : decode cX5_addCue 73 = .ok (.getfield 25, 3) := dk_180 0 25 (dk_at dksX5_addCue_3 1 rfl rfl)
theorem dX5_addCue_76 : decode cX5_addCue 76 = .ok (.getfield 97, 3) := dk_180 0 97 (dk_at dksX5_addCue_3 4 rfl rfl)
theorem dX5_addCue_79 : decode cX5_addCue 79 = .ok (.iload_n 3, 1) := dk_29 (dk_at dksX5_addCue_3 7 rfl rfl)
theorem dX5_addCue_80 : decode cX5_addCue 80 = .ok (.invokevirtual 103, 3) := dk_182 0 103 (dk_at dksX5_addCue_3 8 rfl rfl)
theorem dX5_addCue_83 : decode cX5_addCue 83 = .ok (.checkcast 107, 3) := dk_192 0 107 (dk_at dksX5_addCue_3 11 rfl rfl)
theorem dX5_addCue_86 : decode cX5_addCue 86 = .ok (.getfield 183, 3) := dk_180 0 183 (dk_at dksX5_addCue_3 14 rfl rfl)
theorem dX5_addCue_89 : decode cX5_addCue 89 = .ok (.invokevirtual 164, 3) := dk_182 0 164 (dk_at dksX5_addCue_3 17 rfl rfl)
theorem dX5_addCue_92 : decode cX5_addCue 92 = .ok (.invokevirtual 186, 3) := dk_182 0 186 (dk_at dksX5_addCue_3 20 rfl rfl)
theorem dX5_addCue_95 : decode cX5_addCue 95 = .ok (.goto (-67), 3) := dk_167 255 189 (dk_at dksX5_addCue_4 0 rfl rfl)
theorem dX5_addCue_98 : decode cX5_addCue 98 = .ok (.aload_n 0, 1) := dk_42 (dk_at dksX5_addCue_4 3 rfl rfl)
theorem dX5_addCue_99 : decode cX5_addCue 99 = .ok (.getfield 25, 3) := dk_180 0 25 (dk_at dksX5_addCue_4 4 rfl rfl)
theorem dX5_addCue_102 : decode cX5_addCue 102 = .ok (.getfield 141, 3) := dk_180 0 141 (dk_at dksX5_addCue_4 7 rfl rfl)
theorem dX5_addCue_105 : decode cX5_addCue 105 = .ok (.aload_n 2, 1) := dk_44 (dk_at dksX5_addCue_4 10 rfl rfl)
theorem dX5_addCue_106 : decode cX5_addCue 106 = .ok (.invokevirtual 161, 3) := dk_182 0 161 (dk_at dksX5_addCue_4 11 rfl rfl)
theorem dX5_addCue_109 : decode cX5_addCue 109 = .ok (.pop, 1) := dk_87 (dk_at dksX5_addCue_4 14 rfl rfl)
theorem dX5_addCue_110 : decode cX5_addCue 110 = .ok (.return_, 1) := dk_177 (dk_at dksX5_addCue_4 15 rfl rfl)
abbrev cX5_axis : ByteArray := prog_9_method_8_code
def yX5_axis : MethodName := ⟨RX5, "axis", "(I)I"⟩
def dkwX5_axis_1 : List UInt8 := [28, 184, 0, 121, 154, 0, 7, 4, 167, 0, 4, 3, 182, 0, 88, 42, 182, 0, 92, 28, 172]
abbrev dktX5_axis_1 : List UInt8 := dkwX5_axis_1 ++ []
def dkwX5_axis_0 : List UInt8 := [42, 180, 0, 57, 5, 160, 0, 10, 42, 182, 0, 118, 167, 0, 4, 2, 61, 42, 28, 2, 159, 0, 15, 27]
abbrev dktX5_axis_0 : List UInt8 := dkwX5_axis_0 ++ dktX5_axis_1
theorem dksX5_axis_0 : cX5_axis.data.toList.drop 0 = dktX5_axis_0 := by decide +kernel
theorem dksX5_axis_1 : cX5_axis.data.toList.drop 24 = dktX5_axis_1 := dk_seg dksX5_axis_0 24 rfl rfl
theorem dX5_axis_0 : decode cX5_axis 0 = .ok (.aload_n 0, 1) := dk_42 (dk_at dksX5_axis_0 0 rfl rfl)
theorem dX5_axis_1 : decode cX5_axis 1 = .ok (.getfield 57, 3) := dk_180 0 57 (dk_at dksX5_axis_0 1 rfl rfl)
theorem dX5_axis_4 : decode cX5_axis 4 = .ok (.iconst 2, 1) := dk_5 (dk_at dksX5_axis_0 4 rfl rfl)
theorem dX5_axis_5 : decode cX5_axis 5 = .ok (.if_icmp .ne 10, 3) := dk_160 0 10 (dk_at dksX5_axis_0 5 rfl rfl)
theorem dX5_axis_8 : decode cX5_axis 8 = .ok (.aload_n 0, 1) := dk_42 (dk_at dksX5_axis_0 8 rfl rfl)
theorem dX5_axis_9 : decode cX5_axis 9 = .ok (.invokevirtual 118, 3) := dk_182 0 118 (dk_at dksX5_axis_0 9 rfl rfl)
theorem dX5_axis_12 : decode cX5_axis 12 = .ok (.goto 4, 3) := dk_167 0 4 (dk_at dksX5_axis_0 12 rfl rfl)
theorem dX5_axis_15 : decode cX5_axis 15 = .ok (.iconst (-1), 1) := dk_2 (dk_at dksX5_axis_0 15 rfl rfl)
theorem dX5_axis_16 : decode cX5_axis 16 = .ok (.istore_n 2, 1) := dk_61 (dk_at dksX5_axis_0 16 rfl rfl)
theorem dX5_axis_17 : decode cX5_axis 17 = .ok (.aload_n 0, 1) := dk_42 (dk_at dksX5_axis_0 17 rfl rfl)
theorem dX5_axis_18 : decode cX5_axis 18 = .ok (.iload_n 2, 1) := dk_28 (dk_at dksX5_axis_0 18 rfl rfl)
theorem dX5_axis_19 : decode cX5_axis 19 = .ok (.iconst (-1), 1) := dk_2 (dk_at dksX5_axis_0 19 rfl rfl)
theorem dX5_axis_20 : decode cX5_axis 20 = .ok (.if_icmp .eq 15, 3) := dk_159 0 15 (dk_at dksX5_axis_0 20 rfl rfl)
theorem dX5_axis_23 : decode cX5_axis 23 = .ok (.iload_n 1, 1) := dk_27 (dk_at dksX5_axis_0 23 rfl rfl)
theorem dX5_axis_24 : decode cX5_axis 24 = .ok (.iload_n 2, 1) := dk_28 (dk_at dksX5_axis_1 0 rfl rfl)
theorem dX5_axis_25 : decode cX5_axis 25 = .ok (.invokestatic 121, 3) := dk_184 0 121 (dk_at dksX5_axis_1 1 rfl rfl)
theorem dX5_axis_28 : decode cX5_axis 28 = .ok (.ifCond .ne 7, 3) := dk_154 0 7 (dk_at dksX5_axis_1 4 rfl rfl)
theorem dX5_axis_31 : decode cX5_axis 31 = .ok (.iconst 1, 1) := dk_4 (dk_at dksX5_axis_1 7 rfl rfl)
theorem dX5_axis_32 : decode cX5_axis 32 = .ok (.goto 4, 3) := dk_167 0 4 (dk_at dksX5_axis_1 8 rfl rfl)
theorem dX5_axis_35 : decode cX5_axis 35 = .ok (.iconst 0, 1) := dk_3 (dk_at dksX5_axis_1 11 rfl rfl)
theorem dX5_axis_36 : decode cX5_axis 36 = .ok (.invokevirtual 88, 3) := dk_182 0 88 (dk_at dksX5_axis_1 12 rfl rfl)
theorem dX5_axis_39 : decode cX5_axis 39 = .ok (.aload_n 0, 1) := dk_42 (dk_at dksX5_axis_1 15 rfl rfl)
theorem dX5_axis_40 : decode cX5_axis 40 = .ok (.invokevirtual 92, 3) := dk_182 0 92 (dk_at dksX5_axis_1 16 rfl rfl)
theorem dX5_axis_43 : decode cX5_axis 43 = .ok (.iload_n 2, 1) := dk_28 (dk_at dksX5_axis_1 19 rfl rfl)
theorem dX5_axis_44 : decode cX5_axis 44 = .ok (.ireturn, 1) := dk_172 (dk_at dksX5_axis_1 20 rfl rfl)
abbrev cX5_addWall : ByteArray := prog_9_method_13_code
def yX5_addWall : MethodName := ⟨RX5, "addWall", "()V"⟩
def dkwX5_addWall_3 : List UInt8 := [17, 39, 15, 182, 0, 164, 183, 0, 191, 182, 0, 161, 87, 177]
abbrev dktX5_addWall_3 : List UInt8 := dkwX5_addWall_3 ++ []
def dkwX5_addWall_2 : List UInt8 := [54, 5, 42, 180, 0, 25, 180, 0, 147, 187, 0, 189, 89, 27, 28, 29, 21, 4, 21, 5, 42, 21, 5]
abbrev dktX5_addWall_2 : List UInt8 := dkwX5_addWall_2 ++ dktX5_addWall_3
def dkwX5_addWall_1 : List UInt8 := [182, 0, 164, 62, 42, 4, 27, 120, 182, 0, 177, 54, 4, 42, 17, 216, 241, 17, 39, 15, 182, 0, 164]
abbrev dktX5_addWall_1 : List UInt8 := dkwX5_addWall_1 ++ dktX5_addWall_2
def dkwX5_addWall_0 : List UInt8 := [42, 3, 182, 0, 177, 60, 42, 17, 216, 241, 17, 39, 15, 182, 0, 164, 61, 42, 28, 17, 39, 15]
abbrev dktX5_addWall_0 : List UInt8 := dkwX5_addWall_0 ++ dktX5_addWall_1
theorem dksX5_addWall_0 : cX5_addWall.data.toList.drop 0 = dktX5_addWall_0 := by decide +kernel
theorem dksX5_addWall_1 : cX5_addWall.data.toList.drop 22 = dktX5_addWall_1 := dk_seg dksX5_addWall_0 22 rfl rfl
theorem dksX5_addWall_2 : cX5_addWall.data.toList.drop 45 = dktX5_addWall_2 := dk_seg dksX5_addWall_1 23 rfl rfl
theorem dksX5_addWall_3 : cX5_addWall.data.toList.drop 68 = dktX5_addWall_3 := dk_seg dksX5_addWall_2 23 rfl rfl
theorem dX5_addWall_0 : decode cX5_addWall 0 = .ok (.aload_n 0, 1) := dk_42 (dk_at dksX5_addWall_0 0 rfl rfl)
theorem dX5_addWall_1 : decode cX5_addWall 1 = .ok (.iconst 0, 1) := dk_3 (dk_at dksX5_addWall_0 1 rfl rfl)
theorem dX5_addWall_2 : decode cX5_addWall 2 = .ok (.invokevirtual 177, 3) := dk_182 0 177 (dk_at dksX5_addWall_0 2 rfl rfl)
theorem dX5_addWall_5 : decode cX5_addWall 5 = .ok (.istore_n 1, 1) := dk_60 (dk_at dksX5_addWall_0 5 rfl rfl)
theorem dX5_addWall_6 : decode cX5_addWall 6 = .ok (.aload_n 0, 1) := dk_42 (dk_at dksX5_addWall_0 6 rfl rfl)
theorem dX5_addWall_7 : decode cX5_addWall 7 = .ok (.sipush (-9999), 3) := dk_17 216 241 (dk_at dksX5_addWall_0 7 rfl rfl)
theorem dX5_addWall_10 : decode cX5_addWall 10 = .ok (.sipush 9999, 3) := dk_17 39 15 (dk_at dksX5_addWall_0 10 rfl rfl)
theorem dX5_addWall_13 : decode cX5_addWall 13 = .ok (.invokevirtual 164, 3) := dk_182 0 164 (dk_at dksX5_addWall_0 13 rfl rfl)
theorem dX5_addWall_16 : decode cX5_addWall 16 = .ok (.istore_n 2, 1) := dk_61 (dk_at dksX5_addWall_0 16 rfl rfl)
theorem dX5_addWall_17 : decode cX5_addWall 17 = .ok (.aload_n 0, 1) := dk_42 (dk_at dksX5_addWall_0 17 rfl rfl)
theorem dX5_addWall_18 : decode cX5_addWall 18 = .ok (.iload_n 2, 1) := dk_28 (dk_at dksX5_addWall_0 18 rfl rfl)
theorem dX5_addWall_19 : decode cX5_addWall 19 = .ok (.sipush 9999, 3) := dk_17 39 15 (dk_at dksX5_addWall_0 19 rfl rfl)
theorem dX5_addWall_22 : decode cX5_addWall 22 = .ok (.invokevirtual 164, 3) := dk_182 0 164 (dk_at dksX5_addWall_1 0 rfl rfl)
theorem dX5_addWall_25 : decode cX5_addWall 25 = .ok (.istore_n 3, 1) := dk_62 (dk_at dksX5_addWall_1 3 rfl rfl)
theorem dX5_addWall_26 : decode cX5_addWall 26 = .ok (.aload_n 0, 1) := dk_42 (dk_at dksX5_addWall_1 4 rfl rfl)
theorem dX5_addWall_27 : decode cX5_addWall 27 = .ok (.iconst 1, 1) := dk_4 (dk_at dksX5_addWall_1 5 rfl rfl)
theorem dX5_addWall_28 : decode cX5_addWall 28 = .ok (.iload_n 1, 1) := dk_27 (dk_at dksX5_addWall_1 6 rfl rfl)
theorem dX5_addWall_29 : decode cX5_addWall 29 = .ok (.ishl, 1) := dk_120 (dk_at dksX5_addWall_1 7 rfl rfl)
theorem dX5_addWall_30 : decode cX5_addWall 30 = .ok (.invokevirtual 177, 3) := dk_182 0 177 (dk_at dksX5_addWall_1 8 rfl rfl)
theorem dX5_addWall_33 : decode cX5_addWall 33 = .ok (.istore 4, 2) := dk_54 4 (dk_at dksX5_addWall_1 11 rfl rfl)
theorem dX5_addWall_35 : decode cX5_addWall 35 = .ok (.aload_n 0, 1) := dk_42 (dk_at dksX5_addWall_1 13 rfl rfl)
theorem dX5_addWall_36 : decode cX5_addWall 36 = .ok (.sipush (-9999), 3) := dk_17 216 241 (dk_at dksX5_addWall_1 14 rfl rfl)
theorem dX5_addWall_39 : decode cX5_addWall 39 = .ok (.sipush 9999, 3) := dk_17 39 15 (dk_at dksX5_addWall_1 17 rfl rfl)
theorem dX5_addWall_42 : decode cX5_addWall 42 = .ok (.invokevirtual 164, 3) := dk_182 0 164 (dk_at dksX5_addWall_1 20 rfl rfl)
theorem dX5_addWall_45 : decode cX5_addWall 45 = .ok (.istore 5, 2) := dk_54 5 (dk_at dksX5_addWall_2 0 rfl rfl)
theorem dX5_addWall_47 : decode cX5_addWall 47 = .ok (.aload_n 0, 1) := dk_42 (dk_at dksX5_addWall_2 2 rfl rfl)
theorem dX5_addWall_48 : decode cX5_addWall 48 = .ok (.getfield 25, 3) := dk_180 0 25 (dk_at dksX5_addWall_2 3 rfl rfl)
theorem dX5_addWall_51 : decode cX5_addWall 51 = .ok (.getfield 147, 3) := dk_180 0 147 (dk_at dksX5_addWall_2 6 rfl rfl)
theorem dX5_addWall_54 : decode cX5_addWall 54 = .ok (.new 189, 3) := dk_187 0 189 (dk_at dksX5_addWall_2 9 rfl rfl)
theorem dX5_addWall_57 : decode cX5_addWall 57 = .ok (.dup, 1) := dk_89 (dk_at dksX5_addWall_2 12 rfl rfl)
theorem dX5_addWall_58 : decode cX5_addWall 58 = .ok (.iload_n 1, 1) := dk_27 (dk_at dksX5_addWall_2 13 rfl rfl)
theorem dX5_addWall_59 : decode cX5_addWall 59 = .ok (.iload_n 2, 1) := dk_28 (dk_at dksX5_addWall_2 14 rfl rfl)
theorem dX5_addWall_60 : decode cX5_addWall 60 = .ok (.iload_n 3, 1) := dk_29 (dk_at dksX5_addWall_2 15 rfl rfl)
theorem dX5_addWall_61 : decode cX5_addWall 61 = .ok (.iload 4, 2) := dk_21 4 (dk_at dksX5_addWall_2 16 rfl rfl)
theorem dX5_addWall_63 : decode cX5_addWall 63 = .ok (.iload 5, 2) := dk_21 5 (dk_at dksX5_addWall_2 18 rfl rfl)
theorem dX5_addWall_65 : decode cX5_addWall 65 = .ok (.aload_n 0, 1) := dk_42 (dk_at dksX5_addWall_2 20 rfl rfl)
theorem dX5_addWall_66 : decode cX5_addWall 66 = .ok (.iload 5, 2) := dk_21 5 (dk_at dksX5_addWall_2 21 rfl rfl)
theorem dX5_addWall_68 : decode cX5_addWall 68 = .ok (.sipush 9999, 3) := dk_17 39 15 (dk_at dksX5_addWall_3 0 rfl rfl)
theorem dX5_addWall_71 : decode cX5_addWall 71 = .ok (.invokevirtual 164, 3) := dk_182 0 164 (dk_at dksX5_addWall_3 3 rfl rfl)
theorem dX5_addWall_74 : decode cX5_addWall 74 = .ok (.invokespecial 191, 3) := dk_183 0 191 (dk_at dksX5_addWall_3 6 rfl rfl)
theorem dX5_addWall_77 : decode cX5_addWall 77 = .ok (.invokevirtual 161, 3) := dk_182 0 161 (dk_at dksX5_addWall_3 9 rfl rfl)
theorem dX5_addWall_80 : decode cX5_addWall 80 = .ok (.pop, 1) := dk_87 (dk_at dksX5_addWall_3 12 rfl rfl)
theorem dX5_addWall_81 : decode cX5_addWall 81 = .ok (.return_, 1) := dk_177 (dk_at dksX5_addWall_3 13 rfl rfl)
theorem q133 : (Jvm.Cond.initialized "CameraMoves$Parser") ∈ lw_all := lw_g (lw_at lw_m1 26 rfl) rfl
theorem q520 : (Jvm.Cond.fieldLinkNest "CameraMoves$Parser" (97 : Nat) "CameraMoves$Plan" "axes" "Ljava/util/ArrayList;" "CameraMoves") ∈ lw_tbl := lw_at lw_m2 173 rfl
theorem q525 : (Jvm.Cond.fieldLinkNest "CameraMoves$Parser" (141 : Nat) "CameraMoves$Plan" "cues" "Ljava/util/ArrayList;" "CameraMoves") ∈ lw_tbl := lw_at lw_m2 178 rfl
theorem q529 : (Jvm.Cond.fieldLinkNest "CameraMoves$Parser" (147 : Nat) "CameraMoves$Plan" "walls" "Ljava/util/ArrayList;" "CameraMoves") ∈ lw_tbl := lw_at lw_m2 182 rfl
theorem q532 : (Jvm.Cond.fieldLinkNest "CameraMoves$Parser" (153 : Nat) "CameraMoves$Plan" "passes" "Ljava/util/ArrayList;" "CameraMoves") ∈ lw_tbl := lw_at lw_m2 185 rfl
theorem q594 : (Jvm.Cond.fieldLinkNest "CameraMoves$Parser" (42 : Nat) "CameraMoves" "buffer" "[B" "CameraMoves") ∈ lw_tbl := lw_at lw_m3 7 rfl
theorem q944 : (Jvm.Cond.instantiable "CameraMoves$Parser" (8 : Nat)) ∈ lw_all := lw_g (lw_at lw_m4 117 rfl) rfl
theorem q946 : (Jvm.Cond.instanceMethod ({ cls := "CameraMoves$Parser", name := "<init>", desc := "(LCameraMoves;I)V" } : Jvm.MethodName)) ∈ lw_all := lw_g (lw_at lw_m4 119 rfl) rfl
theorem q947 : (Jvm.Cond.code ({ cls := "CameraMoves$Parser", name := "<init>", desc := "(LCameraMoves;I)V" } : Jvm.MethodName) prog_9_method_1_code (3 : Nat) (Option.none : Option Jvm.ClassFile.FieldType)) ∈ lw_all := lw_g (lw_at lw_m4 120 rfl) rfl
theorem q948 : (Jvm.Cond.methodLink "CameraMoves$Parser" (9 : Nat) ({ cls := "java/lang/Object", name := "<init>", desc := "()V" } : Jvm.MethodName)) ∈ lw_all := lw_g (lw_at lw_m4 121 rfl) rfl
theorem q949 : (Jvm.Cond.classLink "CameraMoves$Parser" (15 : Nat) "CameraMoves$Plan") ∈ lw_all := lw_g (lw_at lw_m4 122 rfl) rfl
theorem q950 : (Jvm.Cond.classLink "CameraMoves$Parser" (17 : Nat) "java/util/ArrayList") ∈ lw_all := lw_g (lw_at lw_m4 123 rfl) rfl
theorem q951 : (Jvm.Cond.methodLink "CameraMoves$Parser" (19 : Nat) ({ cls := "java/util/ArrayList", name := "<init>", desc := "(I)V" } : Jvm.MethodName)) ∈ lw_all := lw_g (lw_at lw_m4 124 rfl) rfl
theorem q952 : (Jvm.Cond.methodLink "CameraMoves$Parser" (22 : Nat) ({ cls := "CameraMoves$Plan", name := "<init>", desc := "(Ljava/util/ArrayList;)V" } : Jvm.MethodName)) ∈ lw_all := lw_g (lw_at lw_m4 125 rfl) rfl
theorem q953 : (Jvm.Cond.stringRef "CameraMoves$Parser" (29 : Nat) "") ∈ lw_tbl := lw_at lw_m4 126 rfl
theorem q954 : (Jvm.Cond.fieldLink "CameraMoves$Parser" (35 : Nat) "CameraMoves$Parser" "size" "I") ∈ lw_all := lw_g (lw_at lw_m4 127 rfl) rfl
theorem q955 : (Jvm.Cond.fieldLink "CameraMoves$Parser" (25 : Nat) "CameraMoves$Parser" "parsed" "LCameraMoves$Plan;") ∈ lw_all := lw_g (lw_at lw_m4 128 rfl) rfl
theorem q956 : (Jvm.Cond.fieldLink "CameraMoves$Parser" (54 : Nat) "CameraMoves$Parser" "start" "I") ∈ lw_all := lw_g (lw_at lw_m4 129 rfl) rfl
theorem q957 : (Jvm.Cond.fieldLink "CameraMoves$Parser" (39 : Nat) "CameraMoves$Parser" "next" "I") ∈ lw_all := lw_g (lw_at lw_m4 130 rfl) rfl
theorem q958 : (Jvm.Cond.fieldLink "CameraMoves$Parser" (57 : Nat) "CameraMoves$Parser" "token" "I") ∈ lw_all := lw_g (lw_at lw_m4 131 rfl) rfl
theorem q959 : (Jvm.Cond.fieldLink "CameraMoves$Parser" (75 : Nat) "CameraMoves$Parser" "number" "I") ∈ lw_all := lw_g (lw_at lw_m4 132 rfl) rfl
theorem q960 : (Jvm.Cond.fieldLink "CameraMoves$Parser" (31 : Nat) "CameraMoves$Parser" "word" "Ljava/lang/String;") ∈ lw_all := lw_g (lw_at lw_m4 133 rfl) rfl
theorem q961 : (Jvm.Cond.fieldLink "CameraMoves$Parser" (3 : Nat) "CameraMoves$Parser" "this$0" "LCameraMoves;") ∈ lw_all := lw_g (lw_at lw_m4 134 rfl) rfl
theorem q962 : (Jvm.Cond.laysFinal "CameraMoves$Parser" "CameraMoves$Parser" "size" "I") ∈ lw_all := lw_g (lw_at lw_m4 135 rfl) rfl
theorem q963 : (Jvm.Cond.soleField "CameraMoves$Parser" "size") ∈ lw_all := lw_g (lw_at lw_m4 136 rfl) rfl
theorem q964 : (Jvm.Cond.laysFinal "CameraMoves$Parser" "CameraMoves$Parser" "parsed" "LCameraMoves$Plan;") ∈ lw_all := lw_g (lw_at lw_m4 137 rfl) rfl
theorem q965 : (Jvm.Cond.soleField "CameraMoves$Parser" "parsed") ∈ lw_all := lw_g (lw_at lw_m4 138 rfl) rfl
theorem q966 : (Jvm.Cond.lays "CameraMoves$Parser" "CameraMoves$Parser" "start" "I") ∈ lw_all := lw_g (lw_at lw_m4 139 rfl) rfl
theorem q967 : (Jvm.Cond.soleField "CameraMoves$Parser" "start") ∈ lw_all := lw_g (lw_at lw_m4 140 rfl) rfl
theorem q968 : (Jvm.Cond.lays "CameraMoves$Parser" "CameraMoves$Parser" "next" "I") ∈ lw_all := lw_g (lw_at lw_m4 141 rfl) rfl
theorem q969 : (Jvm.Cond.soleField "CameraMoves$Parser" "next") ∈ lw_all := lw_g (lw_at lw_m4 142 rfl) rfl
theorem q970 : (Jvm.Cond.lays "CameraMoves$Parser" "CameraMoves$Parser" "token" "I") ∈ lw_all := lw_g (lw_at lw_m4 143 rfl) rfl
theorem q971 : (Jvm.Cond.soleField "CameraMoves$Parser" "token") ∈ lw_all := lw_g (lw_at lw_m4 144 rfl) rfl
theorem q972 : (Jvm.Cond.lays "CameraMoves$Parser" "CameraMoves$Parser" "number" "I") ∈ lw_all := lw_g (lw_at lw_m4 145 rfl) rfl
theorem q973 : (Jvm.Cond.soleField "CameraMoves$Parser" "number") ∈ lw_all := lw_g (lw_at lw_m4 146 rfl) rfl
theorem q974 : (Jvm.Cond.lays "CameraMoves$Parser" "CameraMoves$Parser" "word" "Ljava/lang/String;") ∈ lw_all := lw_g (lw_at lw_m4 147 rfl) rfl
theorem q975 : (Jvm.Cond.soleField "CameraMoves$Parser" "word") ∈ lw_all := lw_g (lw_at lw_m4 148 rfl) rfl
theorem q976 : (Jvm.Cond.laysFinal "CameraMoves$Parser" "CameraMoves$Parser" "this$0" "LCameraMoves;") ∈ lw_all := lw_g (lw_at lw_m4 149 rfl) rfl
theorem q977 : (Jvm.Cond.soleField "CameraMoves$Parser" "this$0") ∈ lw_all := lw_g (lw_at lw_m4 150 rfl) rfl
theorem q978 : (Jvm.Cond.superclass "CameraMoves$Parser" "java/lang/Object") ∈ lw_all := lw_g (lw_at lw_m4 151 rfl) rfl
theorem q980 : (Jvm.Cond.instanceMethod ({ cls := "CameraMoves$Parser", name := "parse", desc := "()LCameraMoves$Plan;" } : Jvm.MethodName)) ∈ lw_all := lw_g (lw_at lw_m4 153 rfl) rfl
theorem q981 : (Jvm.Cond.selects "CameraMoves$Parser" ({ cls := "CameraMoves$Parser", name := "parse", desc := "()LCameraMoves$Plan;" } : Jvm.MethodName) ({ cls := "CameraMoves$Parser", name := "parse", desc := "()LCameraMoves$Plan;" } : Jvm.MethodName)) ∈ lw_all := lw_g (lw_at lw_m4 154 rfl) rfl
theorem q982 : (Jvm.Cond.code ({ cls := "CameraMoves$Parser", name := "parse", desc := "()LCameraMoves$Plan;" } : Jvm.MethodName) prog_9_method_9_code (1 : Nat) (Option.some (Jvm.ClassFile.FieldType.object "CameraMoves$Plan"))) ∈ lw_all := lw_g (lw_at lw_m4 155 rfl) rfl
theorem q983 : (Jvm.Cond.methodLink "CameraMoves$Parser" (92 : Nat) ({ cls := "CameraMoves$Parser", name := "advance", desc := "()V" } : Jvm.MethodName)) ∈ lw_all := lw_g (lw_at lw_m4 156 rfl) rfl
theorem q984 : (Jvm.Cond.privateMethod ({ cls := "CameraMoves$Parser", name := "advance", desc := "()V" } : Jvm.MethodName)) ∈ lw_tbl := lw_at lw_m4 157 rfl
theorem q985 : (Jvm.Cond.instanceMethod ({ cls := "CameraMoves$Parser", name := "advance", desc := "()V" } : Jvm.MethodName)) ∈ lw_all := lw_g (lw_at lw_m4 158 rfl) rfl
theorem q986 : (Jvm.Cond.code ({ cls := "CameraMoves$Parser", name := "advance", desc := "()V" } : Jvm.MethodName) prog_9_method_3_code (2 : Nat) (Option.none : Option Jvm.ClassFile.FieldType)) ∈ lw_all := lw_g (lw_at lw_m4 159 rfl) rfl
theorem q987 : (Jvm.Cond.methodLink "CameraMoves$Parser" (50 : Nat) ({ cls := "CameraMoves$Parser", name := "isNext", desc := "(II)Z" } : Jvm.MethodName)) ∈ lw_all := lw_g (lw_at lw_m4 160 rfl) rfl
theorem q988 : (Jvm.Cond.privateMethod ({ cls := "CameraMoves$Parser", name := "isNext", desc := "(II)Z" } : Jvm.MethodName)) ∈ lw_tbl := lw_at lw_m4 161 rfl
theorem q989 : (Jvm.Cond.instanceMethod ({ cls := "CameraMoves$Parser", name := "isNext", desc := "(II)Z" } : Jvm.MethodName)) ∈ lw_all := lw_g (lw_at lw_m4 162 rfl) rfl
theorem q990 : (Jvm.Cond.code ({ cls := "CameraMoves$Parser", name := "isNext", desc := "(II)Z" } : Jvm.MethodName) prog_9_method_2_code (3 : Nat) (Option.some Jvm.ClassFile.FieldType.boolean)) ∈ lw_all := lw_g (lw_at lw_m4 163 rfl) rfl
theorem q991 : (Jvm.Cond.methodLinkNest "CameraMoves$Parser" (46 : Nat) ({ cls := "CameraMoves", name := "in", desc := "(JJJ)Z" } : Jvm.MethodName) "CameraMoves") ∈ lw_tbl := lw_at lw_m4 164 rfl
theorem q992 : (Jvm.Cond.classLink "CameraMoves$Parser" (60 : Nat) "java/lang/StringBuilder") ∈ lw_all := lw_g (lw_at lw_m4 165 rfl) rfl
theorem q993 : (Jvm.Cond.methodLink "CameraMoves$Parser" (62 : Nat) ({ cls := "java/lang/StringBuilder", name := "<init>", desc := "()V" } : Jvm.MethodName)) ∈ lw_all := lw_g (lw_at lw_m4 166 rfl) rfl
theorem q994 : (Jvm.Cond.methodLink "CameraMoves$Parser" (63 : Nat) ({ cls := "java/lang/StringBuilder", name := "append", desc := "(C)Ljava/lang/StringBuilder;" } : Jvm.MethodName)) ∈ lw_all := lw_g (lw_at lw_m4 167 rfl) rfl
theorem q1014 : (Jvm.Cond.methodLink "CameraMoves$Parser" (67 : Nat) ({ cls := "java/lang/StringBuilder", name := "toString", desc := "()Ljava/lang/String;" } : Jvm.MethodName)) ∈ lw_all := lw_g (lw_at lw_m4 187 rfl) rfl
theorem q1015 : (Jvm.Cond.methodLink "CameraMoves$Parser" (71 : Nat) ({ cls := "java/lang/StringBuilder", name := "length", desc := "()I" } : Jvm.MethodName)) ∈ lw_all := lw_g (lw_at lw_m4 188 rfl) rfl
theorem q1016 : (Jvm.Cond.constant "CameraMoves$Parser" (78 : Nat) (99999 : Int32)) ∈ lw_all := lw_g (lw_at lw_m4 189 rfl) rfl
theorem q1017 : (Jvm.Cond.methodLink "CameraMoves$Parser" (79 : Nat) ({ cls := "java/lang/Math", name := "min", desc := "(II)I" } : Jvm.MethodName)) ∈ lw_all := lw_g (lw_at lw_m4 190 rfl) rfl
theorem q1018 : (Jvm.Cond.methodLink "CameraMoves$Parser" (124 : Nat) ({ cls := "CameraMoves$Parser", name := "statement", desc := "()V" } : Jvm.MethodName)) ∈ lw_all := lw_g (lw_at lw_m4 191 rfl) rfl
theorem q1019 : (Jvm.Cond.privateMethod ({ cls := "CameraMoves$Parser", name := "statement", desc := "()V" } : Jvm.MethodName)) ∈ lw_tbl := lw_at lw_m4 192 rfl
theorem q1020 : (Jvm.Cond.instanceMethod ({ cls := "CameraMoves$Parser", name := "statement", desc := "()V" } : Jvm.MethodName)) ∈ lw_all := lw_g (lw_at lw_m4 193 rfl) rfl
theorem q1021 : (Jvm.Cond.code ({ cls := "CameraMoves$Parser", name := "statement", desc := "()V" } : Jvm.MethodName) prog_9_method_10_code (5 : Nat) (Option.none : Option Jvm.ClassFile.FieldType)) ∈ lw_all := lw_g (lw_at lw_m4 194 rfl) rfl
theorem q1022 : (Jvm.Cond.methodLink "CameraMoves$Parser" (127 : Nat) ({ cls := "java/lang/String", name := "hashCode", desc := "()I" } : Jvm.MethodName)) ∈ lw_all := lw_g (lw_at lw_m4 195 rfl) rfl
theorem q1083 : (Jvm.Cond.stringRef "CameraMoves$Parser" (130 : Nat) "axis") ∈ lw_tbl := lw_at lw_m5 16 rfl
theorem q1084 : (Jvm.Cond.methodLink "CameraMoves$Parser" (112 : Nat) ({ cls := "java/lang/String", name := "equals", desc := "(Ljava/lang/Object;)Z" } : Jvm.MethodName)) ∈ lw_all := lw_g (lw_at lw_m5 17 rfl) rfl
theorem q1092 : (Jvm.Cond.stringRef "CameraMoves$Parser" (132 : Nat) "cue") ∈ lw_tbl := lw_at lw_m5 25 rfl
theorem q1093 : (Jvm.Cond.stringRef "CameraMoves$Parser" (134 : Nat) "wall") ∈ lw_tbl := lw_at lw_m5 26 rfl
theorem q1094 : (Jvm.Cond.stringRef "CameraMoves$Parser" (136 : Nat) "pass") ∈ lw_tbl := lw_at lw_m5 27 rfl
theorem q1095 : (Jvm.Cond.methodLink "CameraMoves$Parser" (101 : Nat) ({ cls := "java/util/ArrayList", name := "size", desc := "()I" } : Jvm.MethodName)) ∈ lw_all := lw_g (lw_at lw_m5 28 rfl) rfl
theorem q1096 : (Jvm.Cond.methodLink "CameraMoves$Parser" (88 : Nat) ({ cls := "CameraMoves$Parser", name := "require", desc := "(Z)V" } : Jvm.MethodName)) ∈ lw_all := lw_g (lw_at lw_m5 29 rfl) rfl
theorem q1097 : (Jvm.Cond.privateMethod ({ cls := "CameraMoves$Parser", name := "require", desc := "(Z)V" } : Jvm.MethodName)) ∈ lw_tbl := lw_at lw_m5 30 rfl
theorem q1098 : (Jvm.Cond.instanceMethod ({ cls := "CameraMoves$Parser", name := "require", desc := "(Z)V" } : Jvm.MethodName)) ∈ lw_all := lw_g (lw_at lw_m5 31 rfl) rfl
theorem q1099 : (Jvm.Cond.code ({ cls := "CameraMoves$Parser", name := "require", desc := "(Z)V" } : Jvm.MethodName) prog_9_method_4_code (2 : Nat) (Option.none : Option Jvm.ClassFile.FieldType)) ∈ lw_all := lw_g (lw_at lw_m5 32 rfl) rfl
theorem q1100 : (Jvm.Cond.classLink "CameraMoves$Parser" (85 : Nat) "CameraMoves$TextException") ∈ lw_all := lw_g (lw_at lw_m5 33 rfl) rfl
theorem q1109 : (Jvm.Cond.methodLink "CameraMoves$Parser" (87 : Nat) ({ cls := "CameraMoves$TextException", name := "<init>", desc := "(I)V" } : Jvm.MethodName)) ∈ lw_all := lw_g (lw_at lw_m5 42 rfl) rfl
theorem q1124 : (Jvm.Cond.methodLink "CameraMoves$Parser" (138 : Nat) ({ cls := "CameraMoves$Parser", name := "addAxis", desc := "()V" } : Jvm.MethodName)) ∈ lw_all := lw_g (lw_at lw_m5 57 rfl) rfl
theorem q1125 : (Jvm.Cond.privateMethod ({ cls := "CameraMoves$Parser", name := "addAxis", desc := "()V" } : Jvm.MethodName)) ∈ lw_tbl := lw_at lw_m5 58 rfl
theorem q1126 : (Jvm.Cond.instanceMethod ({ cls := "CameraMoves$Parser", name := "addAxis", desc := "()V" } : Jvm.MethodName)) ∈ lw_all := lw_g (lw_at lw_m5 59 rfl) rfl
theorem q1127 : (Jvm.Cond.code ({ cls := "CameraMoves$Parser", name := "addAxis", desc := "()V" } : Jvm.MethodName) prog_9_method_11_code (6 : Nat) (Option.none : Option Jvm.ClassFile.FieldType)) ∈ lw_all := lw_g (lw_at lw_m5 60 rfl) rfl
theorem q1128 : (Jvm.Cond.methodLink "CameraMoves$Parser" (118 : Nat) ({ cls := "CameraMoves$Parser", name := "axisNamed", desc := "()I" } : Jvm.MethodName)) ∈ lw_all := lw_g (lw_at lw_m5 61 rfl) rfl
theorem q1129 : (Jvm.Cond.privateMethod ({ cls := "CameraMoves$Parser", name := "axisNamed", desc := "()I" } : Jvm.MethodName)) ∈ lw_tbl := lw_at lw_m5 62 rfl
theorem q1130 : (Jvm.Cond.instanceMethod ({ cls := "CameraMoves$Parser", name := "axisNamed", desc := "()I" } : Jvm.MethodName)) ∈ lw_all := lw_g (lw_at lw_m5 63 rfl) rfl
theorem q1131 : (Jvm.Cond.code ({ cls := "CameraMoves$Parser", name := "axisNamed", desc := "()I" } : Jvm.MethodName) prog_9_method_7_code (2 : Nat) (Option.some Jvm.ClassFile.FieldType.int)) ∈ lw_all := lw_g (lw_at lw_m5 64 rfl) rfl
theorem q1132 : (Jvm.Cond.methodLink "CameraMoves$Parser" (103 : Nat) ({ cls := "java/util/ArrayList", name := "get", desc := "(I)Ljava/lang/Object;" } : Jvm.MethodName)) ∈ lw_all := lw_g (lw_at lw_m5 65 rfl) rfl
theorem q1133 : (Jvm.Cond.classLink "CameraMoves$Parser" (107 : Nat) "CameraMoves$Axis") ∈ lw_all := lw_g (lw_at lw_m5 66 rfl) rfl
theorem q1134 : (Jvm.Cond.methodLink "CameraMoves$Parser" (164 : Nat) ({ cls := "CameraMoves$Parser", name := "signed", desc := "(II)I" } : Jvm.MethodName)) ∈ lw_all := lw_g (lw_at lw_m5 67 rfl) rfl
theorem q1135 : (Jvm.Cond.privateMethod ({ cls := "CameraMoves$Parser", name := "signed", desc := "(II)I" } : Jvm.MethodName)) ∈ lw_tbl := lw_at lw_m5 68 rfl
theorem q1136 : (Jvm.Cond.instanceMethod ({ cls := "CameraMoves$Parser", name := "signed", desc := "(II)I" } : Jvm.MethodName)) ∈ lw_all := lw_g (lw_at lw_m5 69 rfl) rfl
theorem q1137 : (Jvm.Cond.code ({ cls := "CameraMoves$Parser", name := "signed", desc := "(II)I" } : Jvm.MethodName) prog_9_method_6_code (3 : Nat) (Option.some Jvm.ClassFile.FieldType.int)) ∈ lw_all := lw_g (lw_at lw_m5 70 rfl) rfl
theorem q1138 : (Jvm.Cond.methodLink "CameraMoves$Parser" (95 : Nat) ({ cls := "CameraMoves$Parser", name := "number", desc := "(II)I" } : Jvm.MethodName)) ∈ lw_all := lw_g (lw_at lw_m5 71 rfl) rfl
theorem q1139 : (Jvm.Cond.privateMethod ({ cls := "CameraMoves$Parser", name := "number", desc := "(II)I" } : Jvm.MethodName)) ∈ lw_tbl := lw_at lw_m5 72 rfl
theorem q1140 : (Jvm.Cond.instanceMethod ({ cls := "CameraMoves$Parser", name := "number", desc := "(II)I" } : Jvm.MethodName)) ∈ lw_all := lw_g (lw_at lw_m5 73 rfl) rfl
theorem q1141 : (Jvm.Cond.code ({ cls := "CameraMoves$Parser", name := "number", desc := "(II)I" } : Jvm.MethodName) prog_9_method_5_code (4 : Nat) (Option.some Jvm.ClassFile.FieldType.int)) ∈ lw_all := lw_g (lw_at lw_m5 74 rfl) rfl
theorem q1143 : (Jvm.Cond.methodLink "CameraMoves$Parser" (167 : Nat) ({ cls := "CameraMoves$Axis", name := "<init>", desc := "(Ljava/lang/String;IIIII)V" } : Jvm.MethodName)) ∈ lw_all := lw_g (lw_at lw_m5 76 rfl) rfl
theorem q1148 : (Jvm.Cond.fieldLinkNest "CameraMoves$Parser" (109 : Nat) "CameraMoves$Axis" "name" "Ljava/lang/String;" "CameraMoves") ∈ lw_tbl := lw_at lw_m5 81 rfl
theorem q1151 : (Jvm.Cond.fieldLinkNest "CameraMoves$Parser" (180 : Nat) "CameraMoves$Axis" "low" "I" "CameraMoves") ∈ lw_tbl := lw_at lw_m5 84 rfl
theorem q1154 : (Jvm.Cond.fieldLinkNest "CameraMoves$Parser" (183 : Nat) "CameraMoves$Axis" "high" "I" "CameraMoves") ∈ lw_tbl := lw_at lw_m5 87 rfl
theorem q1178 : (Jvm.Cond.methodLink "CameraMoves$Parser" (161 : Nat) ({ cls := "java/util/ArrayList", name := "add", desc := "(Ljava/lang/Object;)Z" } : Jvm.MethodName)) ∈ lw_all := lw_g (lw_at lw_m5 111 rfl) rfl
theorem q1210 : (Jvm.Cond.selects "CameraMoves$Parser" ({ cls := "java/lang/Object", name := "getClass", desc := "()Ljava/lang/Class;" } : Jvm.MethodName) ({ cls := "java/lang/Object", name := "getClass", desc := "()Ljava/lang/Class;" } : Jvm.MethodName)) ∈ lw_all := lw_g (lw_at lw_m5 143 rfl) rfl
theorem q1238 : (Jvm.Cond.methodLink "CameraMoves$Parser" (144 : Nat) ({ cls := "CameraMoves$Parser", name := "addCue", desc := "()V" } : Jvm.MethodName)) ∈ lw_all := lw_g (lw_at lw_m5 171 rfl) rfl
theorem q1239 : (Jvm.Cond.privateMethod ({ cls := "CameraMoves$Parser", name := "addCue", desc := "()V" } : Jvm.MethodName)) ∈ lw_tbl := lw_at lw_m5 172 rfl
theorem q1240 : (Jvm.Cond.instanceMethod ({ cls := "CameraMoves$Parser", name := "addCue", desc := "()V" } : Jvm.MethodName)) ∈ lw_all := lw_g (lw_at lw_m5 173 rfl) rfl
theorem q1241 : (Jvm.Cond.code ({ cls := "CameraMoves$Parser", name := "addCue", desc := "()V" } : Jvm.MethodName) prog_9_method_12_code (4 : Nat) (Option.none : Option Jvm.ClassFile.FieldType)) ∈ lw_all := lw_g (lw_at lw_m5 174 rfl) rfl
theorem q1242 : (Jvm.Cond.classLink "CameraMoves$Parser" (170 : Nat) "CameraMoves$Cue") ∈ lw_all := lw_g (lw_at lw_m5 175 rfl) rfl
theorem q1244 : (Jvm.Cond.methodLink "CameraMoves$Parser" (172 : Nat) ({ cls := "CameraMoves$Cue", name := "<init>", desc := "(II)V" } : Jvm.MethodName)) ∈ lw_all := lw_g (lw_at lw_m5 177 rfl) rfl
theorem q1261 : (Jvm.Cond.fieldLinkNest "CameraMoves$Parser" (175 : Nat) "CameraMoves$Cue" "axes" "I" "CameraMoves") ∈ lw_tbl := lw_at lw_m5 194 rfl
theorem q1272 : (Jvm.Cond.methodLink "CameraMoves$Parser" (177 : Nat) ({ cls := "CameraMoves$Parser", name := "axis", desc := "(I)I" } : Jvm.MethodName)) ∈ lw_all := lw_g (lw_at lw_m5 205 rfl) rfl
theorem q1273 : (Jvm.Cond.privateMethod ({ cls := "CameraMoves$Parser", name := "axis", desc := "(I)I" } : Jvm.MethodName)) ∈ lw_tbl := lw_at lw_m5 206 rfl
theorem q1274 : (Jvm.Cond.instanceMethod ({ cls := "CameraMoves$Parser", name := "axis", desc := "(I)I" } : Jvm.MethodName)) ∈ lw_all := lw_g (lw_at lw_m5 207 rfl) rfl
theorem q1275 : (Jvm.Cond.code ({ cls := "CameraMoves$Parser", name := "axis", desc := "(I)I" } : Jvm.MethodName) prog_9_method_8_code (3 : Nat) (Option.some Jvm.ClassFile.FieldType.int)) ∈ lw_all := lw_g (lw_at lw_m5 208 rfl) rfl
theorem q1276 : (Jvm.Cond.methodLinkNest "CameraMoves$Parser" (121 : Nat) ({ cls := "CameraMoves", name := "has", desc := "(II)Z" } : Jvm.MethodName) "CameraMoves") ∈ lw_tbl := lw_at lw_m5 209 rfl
theorem q1277 : (Jvm.Cond.methodLink "CameraMoves$Parser" (186 : Nat) ({ cls := "CameraMoves$Cue", name := "aim", desc := "(II)V" } : Jvm.MethodName)) ∈ lw_all := lw_g (lw_at lw_m5 210 rfl) rfl
theorem q1281 : (Jvm.Cond.methodLink "CameraMoves$Parser" (150 : Nat) ({ cls := "CameraMoves$Parser", name := "addWall", desc := "()V" } : Jvm.MethodName)) ∈ lw_all := lw_g (lw_at lw_m5 214 rfl) rfl
theorem q1282 : (Jvm.Cond.privateMethod ({ cls := "CameraMoves$Parser", name := "addWall", desc := "()V" } : Jvm.MethodName)) ∈ lw_tbl := lw_at lw_m5 215 rfl
theorem q1283 : (Jvm.Cond.instanceMethod ({ cls := "CameraMoves$Parser", name := "addWall", desc := "()V" } : Jvm.MethodName)) ∈ lw_all := lw_g (lw_at lw_m5 216 rfl) rfl
theorem q1284 : (Jvm.Cond.code ({ cls := "CameraMoves$Parser", name := "addWall", desc := "()V" } : Jvm.MethodName) prog_9_method_13_code (6 : Nat) (Option.none : Option Jvm.ClassFile.FieldType)) ∈ lw_all := lw_g (lw_at lw_m5 217 rfl) rfl
theorem q1285 : (Jvm.Cond.classLink "CameraMoves$Parser" (189 : Nat) "CameraMoves$Wall") ∈ lw_all := lw_g (lw_at lw_m5 218 rfl) rfl
theorem q1287 : (Jvm.Cond.methodLink "CameraMoves$Parser" (191 : Nat) ({ cls := "CameraMoves$Wall", name := "<init>", desc := "(IIIIII)V" } : Jvm.MethodName)) ∈ lw_all := lw_g (lw_at lw_m5 220 rfl) rfl
theorem q1316 : (Jvm.Cond.classLink "CameraMoves$Parser" (156 : Nat) "CameraMoves$Pass") ∈ lw_all := lw_g (lw_at lw_m6 9 rfl) rfl
theorem q1318 : (Jvm.Cond.methodLink "CameraMoves$Parser" (158 : Nat) ({ cls := "CameraMoves$Pass", name := "<init>", desc := "(III)V" } : Jvm.MethodName)) ∈ lw_all := lw_g (lw_at lw_m6 11 rfl) rfl
theorem q2680 : (Jvm.Cond.castable "CameraMoves$Parser" "java/lang/Object") ∈ lw_tbl := lw_at lw_m11 173 rfl
theorem in_X5 : ∀ w ∈ wsX50, w ∈ lw_all := lw_in wsX50 [962, 964, 966, 968, 970, 972, 974, 976] (by decide +kernel) (by decide +kernel)

/-! CameraMoves$TextException -/
set_option maxRecDepth 100000
def RX6 : String := "CameraMoves$TextException"
def TX6 : u_T := fun k => match k with
  | 0 => ("java/lang/Throwable", "cause", "Ljava/lang/Throwable;", false)
  | 1 => ("java/lang/Throwable", "stackTrace", "[Ljava/lang/StackTraceElement;", false)
  | 2 => ("java/lang/Throwable", "suppressedExceptions", "Ljava/util/List;", false)
  | 3 => ("java/lang/Throwable", "detailMessage", "Ljava/lang/String;", false)
  | 4 => ("java/lang/Throwable", "backtrace", "Ljava/lang/Object;", false)
  | 5 => ("java/lang/Throwable", "depth", "I", false)
  | _ => ("CameraMoves$TextException", "offset", "I", true)
def tyX6 : Nat → FieldType := fun k => match k with
  | 0 => .object "java/lang/Throwable"
  | 1 => .array (.object "java/lang/StackTraceElement")
  | 2 => .object "java/util/List"
  | 3 => .object "java/lang/String"
  | 4 => .object "java/lang/Object"
  | 5 => .int
  | _ => .int
abbrev wsX60 : List Cond := u_ws RX6 TX6 7
theorem nmX6 : ∀ a, a < 7 → ∀ b, b < 7 → a ≠ b → (TX6 a).2.1 ≠ (TX6 b).2.1 := by decide +kernel
theorem tyX6_ok : ∀ k, k < 7 → parseFieldDescriptor (TX6 k).2.2.1 = some (tyX6 k) := by decide +kernel
abbrev cX6_init : ByteArray := prog_14_method_1_code
def yX6_init : MethodName := ⟨RX6, "<init>", "(I)V"⟩
def dkwX6_init_0 : List UInt8 := [42, 1, 1, 3, 3, 183, 0, 1, 42, 27, 181, 0, 7, 177]
abbrev dktX6_init_0 : List UInt8 := dkwX6_init_0 ++ []
theorem dksX6_init_0 : cX6_init.data.toList.drop 0 = dktX6_init_0 := by decide +kernel
theorem dX6_init_0 : decode cX6_init 0 = .ok (.aload_n 0, 1) := dk_42 (dk_at dksX6_init_0 0 rfl rfl)
theorem dX6_init_1 : decode cX6_init 1 = .ok (.aconst_null, 1) := dk_1 (dk_at dksX6_init_0 1 rfl rfl)
theorem dX6_init_2 : decode cX6_init 2 = .ok (.aconst_null, 1) := dk_1 (dk_at dksX6_init_0 2 rfl rfl)
theorem dX6_init_3 : decode cX6_init 3 = .ok (.iconst 0, 1) := dk_3 (dk_at dksX6_init_0 3 rfl rfl)
theorem dX6_init_4 : decode cX6_init 4 = .ok (.iconst 0, 1) := dk_3 (dk_at dksX6_init_0 4 rfl rfl)
theorem dX6_init_5 : decode cX6_init 5 = .ok (.invokespecial 1, 3) := dk_183 0 1 (dk_at dksX6_init_0 5 rfl rfl)
theorem dX6_init_8 : decode cX6_init 8 = .ok (.aload_n 0, 1) := dk_42 (dk_at dksX6_init_0 8 rfl rfl)
theorem dX6_init_9 : decode cX6_init 9 = .ok (.iload_n 1, 1) := dk_27 (dk_at dksX6_init_0 9 rfl rfl)
theorem dX6_init_10 : decode cX6_init 10 = .ok (.putfield 7, 3) := dk_181 0 7 (dk_at dksX6_init_0 10 rfl rfl)
theorem dX6_init_13 : decode cX6_init 13 = .ok (.return_, 1) := dk_177 (dk_at dksX6_init_0 13 rfl rfl)
theorem q134 : (Jvm.Cond.initialized "CameraMoves$TextException") ∈ lw_all := lw_g (lw_at lw_m1 27 rfl) rfl
theorem q211 : (Jvm.Cond.selects "CameraMoves$TextException" ({ cls := "java/lang/Throwable", name := "fillInStackTrace", desc := "()Ljava/lang/Throwable;" } : Jvm.MethodName) ({ cls := "java/lang/Throwable", name := "fillInStackTrace", desc := "()Ljava/lang/Throwable;" } : Jvm.MethodName)) ∈ lw_all := lw_g (lw_at lw_m1 104 rfl) rfl
theorem q1101 : (Jvm.Cond.instantiable "CameraMoves$TextException" (7 : Nat)) ∈ lw_all := lw_g (lw_at lw_m5 34 rfl) rfl
theorem q1102 : (Jvm.Cond.castable "CameraMoves$TextException" "CameraMoves$TextException") ∈ lw_tbl := lw_at lw_m5 35 rfl
theorem q1103 : (Jvm.Cond.selects "CameraMoves$TextException" ({ cls := "java/lang/Throwable", name := "fillInStackTrace", desc := "(I)Ljava/lang/Throwable;" } : Jvm.MethodName) ({ cls := "java/lang/Throwable", name := "fillInStackTrace", desc := "(I)Ljava/lang/Throwable;" } : Jvm.MethodName)) ∈ lw_all := lw_g (lw_at lw_m5 36 rfl) rfl
theorem q1104 : (Jvm.Cond.lays "CameraMoves$TextException" "java/lang/Throwable" "cause" "Ljava/lang/Throwable;") ∈ lw_all := lw_g (lw_at lw_m5 37 rfl) rfl
theorem q1105 : (Jvm.Cond.lays "CameraMoves$TextException" "java/lang/Throwable" "stackTrace" "[Ljava/lang/StackTraceElement;") ∈ lw_all := lw_g (lw_at lw_m5 38 rfl) rfl
theorem q1106 : (Jvm.Cond.lays "CameraMoves$TextException" "java/lang/Throwable" "suppressedExceptions" "Ljava/util/List;") ∈ lw_all := lw_g (lw_at lw_m5 39 rfl) rfl
theorem q1107 : (Jvm.Cond.lays "CameraMoves$TextException" "java/lang/Throwable" "detailMessage" "Ljava/lang/String;") ∈ lw_all := lw_g (lw_at lw_m5 40 rfl) rfl
theorem q1108 : (Jvm.Cond.lays "CameraMoves$TextException" "java/lang/Throwable" "backtrace" "Ljava/lang/Object;") ∈ lw_all := lw_g (lw_at lw_m5 41 rfl) rfl
theorem q1110 : (Jvm.Cond.instanceMethod ({ cls := "CameraMoves$TextException", name := "<init>", desc := "(I)V" } : Jvm.MethodName)) ∈ lw_all := lw_g (lw_at lw_m5 43 rfl) rfl
theorem q1111 : (Jvm.Cond.code ({ cls := "CameraMoves$TextException", name := "<init>", desc := "(I)V" } : Jvm.MethodName) prog_14_method_1_code (2 : Nat) (Option.none : Option Jvm.ClassFile.FieldType)) ∈ lw_all := lw_g (lw_at lw_m5 44 rfl) rfl
theorem q1112 : (Jvm.Cond.methodLink "CameraMoves$TextException" (1 : Nat) ({ cls := "java/lang/Exception", name := "<init>", desc := "(Ljava/lang/String;Ljava/lang/Throwable;ZZ)V" } : Jvm.MethodName)) ∈ lw_all := lw_g (lw_at lw_m5 45 rfl) rfl
theorem q1118 : (Jvm.Cond.fieldLink "CameraMoves$TextException" (7 : Nat) "CameraMoves$TextException" "offset" "I") ∈ lw_all := lw_g (lw_at lw_m5 51 rfl) rfl
theorem q1120 : (Jvm.Cond.laysFinal "CameraMoves$TextException" "CameraMoves$TextException" "offset" "I") ∈ lw_all := lw_g (lw_at lw_m5 53 rfl) rfl
theorem q1121 : (Jvm.Cond.soleField "CameraMoves$TextException" "offset") ∈ lw_all := lw_g (lw_at lw_m5 54 rfl) rfl
theorem q1122 : (Jvm.Cond.lays "CameraMoves$TextException" "java/lang/Throwable" "depth" "I") ∈ lw_all := lw_g (lw_at lw_m5 55 rfl) rfl
theorem q1123 : (Jvm.Cond.superclass "CameraMoves$TextException" "java/lang/Exception") ∈ lw_all := lw_g (lw_at lw_m5 56 rfl) rfl
theorem q1215 : (Jvm.Cond.selects "CameraMoves$TextException" ({ cls := "java/lang/Object", name := "getClass", desc := "()Ljava/lang/Class;" } : Jvm.MethodName) ({ cls := "java/lang/Object", name := "getClass", desc := "()Ljava/lang/Class;" } : Jvm.MethodName)) ∈ lw_all := lw_g (lw_at lw_m5 148 rfl) rfl
theorem q2682 : (Jvm.Cond.castable "CameraMoves$TextException" "java/lang/Object") ∈ lw_tbl := lw_at lw_m11 175 rfl
theorem in_X6 : ∀ w ∈ wsX60, w ∈ lw_all := lw_in wsX60 [1104, 1105, 1106, 1107, 1108, 1122, 1120] (by decide +kernel) (by decide +kernel)

/-! CameraMoves$Axis -/
set_option maxRecDepth 100000
def RX7 : String := "CameraMoves$Axis"
def TX7 : u_T := fun k => match k with
  | 0 => ("CameraMoves$Axis", "name", "Ljava/lang/String;", true)
  | 1 => ("CameraMoves$Axis", "low", "I", true)
  | 2 => ("CameraMoves$Axis", "high", "I", true)
  | 3 => ("CameraMoves$Axis", "start", "I", true)
  | 4 => ("CameraMoves$Axis", "speed", "I", false)
  | _ => ("CameraMoves$Axis", "ramp", "I", false)
def tyX7 : Nat → FieldType := fun k => match k with
  | 0 => .object "java/lang/String"
  | 1 => .int
  | 2 => .int
  | 3 => .int
  | 4 => .int
  | _ => .int
abbrev wsX70 : List Cond := u_ws RX7 TX7 6
theorem nmX7 : ∀ a, a < 6 → ∀ b, b < 6 → a ≠ b → (TX7 a).2.1 ≠ (TX7 b).2.1 := by decide +kernel
theorem tyX7_ok : ∀ k, k < 6 → parseFieldDescriptor (TX7 k).2.2.1 = some (tyX7 k) := by decide +kernel
abbrev cX7_reach : ByteArray := prog_4_method_4_code
def yX7_reach : MethodName := ⟨RX7, "reach", "(I)I"⟩
def dkwX7_reach_0 : List UInt8 := [42, 27, 42, 180, 0, 20, 182, 0, 38, 172]
abbrev dktX7_reach_0 : List UInt8 := dkwX7_reach_0 ++ []
theorem dksX7_reach_0 : cX7_reach.data.toList.drop 0 = dktX7_reach_0 := by decide +kernel
theorem dX7_reach_0 : decode cX7_reach 0 = .ok (.aload_n 0, 1) := dk_42 (dk_at dksX7_reach_0 0 rfl rfl)
theorem dX7_reach_1 : decode cX7_reach 1 = .ok (.iload_n 1, 1) := dk_27 (dk_at dksX7_reach_0 1 rfl rfl)
theorem dX7_reach_2 : decode cX7_reach 2 = .ok (.aload_n 0, 1) := dk_42 (dk_at dksX7_reach_0 2 rfl rfl)
theorem dX7_reach_3 : decode cX7_reach 3 = .ok (.getfield 20, 3) := dk_180 0 20 (dk_at dksX7_reach_0 3 rfl rfl)
theorem dX7_reach_6 : decode cX7_reach 6 = .ok (.invokevirtual 38, 3) := dk_182 0 38 (dk_at dksX7_reach_0 6 rfl rfl)
theorem dX7_reach_9 : decode cX7_reach 9 = .ok (.ireturn, 1) := dk_172 (dk_at dksX7_reach_0 9 rfl rfl)
abbrev cX7_sum : ByteArray := prog_4_method_3_code
def yX7_sum : MethodName := ⟨RX7, "sum", "(II)I"⟩
def dkwX7_sum_2 : List UInt8 := [21, 4, 4, 96, 104, 5, 29, 21, 4, 100, 104, 28, 104, 96, 21, 5, 96, 172]
abbrev dktX7_sum_2 : List UInt8 := dkwX7_sum_2 ++ []
def dkwX7_sum_1 : List UInt8 := [42, 180, 0, 23, 29, 4, 96, 104, 184, 0, 32, 167, 0, 4, 3, 54, 5, 42, 180, 0, 23, 21, 4, 104]
abbrev dktX7_sum_1 : List UInt8 := dkwX7_sum_1 ++ dktX7_sum_2
def dkwX7_sum_0 : List UInt8 := [27, 5, 108, 62, 29, 28, 42, 180, 0, 23, 108, 184, 0, 32, 54, 4, 27, 5, 112, 4, 160, 0, 18, 28]
abbrev dktX7_sum_0 : List UInt8 := dkwX7_sum_0 ++ dktX7_sum_1
theorem dksX7_sum_0 : cX7_sum.data.toList.drop 0 = dktX7_sum_0 := by decide +kernel
theorem dksX7_sum_1 : cX7_sum.data.toList.drop 24 = dktX7_sum_1 := dk_seg dksX7_sum_0 24 rfl rfl
theorem dksX7_sum_2 : cX7_sum.data.toList.drop 48 = dktX7_sum_2 := dk_seg dksX7_sum_1 24 rfl rfl
theorem dX7_sum_0 : decode cX7_sum 0 = .ok (.iload_n 1, 1) := dk_27 (dk_at dksX7_sum_0 0 rfl rfl)
theorem dX7_sum_1 : decode cX7_sum 1 = .ok (.iconst 2, 1) := dk_5 (dk_at dksX7_sum_0 1 rfl rfl)
theorem dX7_sum_2 : decode cX7_sum 2 = .ok (.idiv, 1) := dk_108 (dk_at dksX7_sum_0 2 rfl rfl)
theorem dX7_sum_3 : decode cX7_sum 3 = .ok (.istore_n 3, 1) := dk_62 (dk_at dksX7_sum_0 3 rfl rfl)
theorem dX7_sum_4 : decode cX7_sum 4 = .ok (.iload_n 3, 1) := dk_29 (dk_at dksX7_sum_0 4 rfl rfl)
theorem dX7_sum_5 : decode cX7_sum 5 = .ok (.iload_n 2, 1) := dk_28 (dk_at dksX7_sum_0 5 rfl rfl)
theorem dX7_sum_6 : decode cX7_sum 6 = .ok (.aload_n 0, 1) := dk_42 (dk_at dksX7_sum_0 6 rfl rfl)
theorem dX7_sum_7 : decode cX7_sum 7 = .ok (.getfield 23, 3) := dk_180 0 23 (dk_at dksX7_sum_0 7 rfl rfl)
theorem dX7_sum_10 : decode cX7_sum 10 = .ok (.idiv, 1) := dk_108 (dk_at dksX7_sum_0 10 rfl rfl)
theorem dX7_sum_11 : decode cX7_sum 11 = .ok (.invokestatic 32, 3) := dk_184 0 32 (dk_at dksX7_sum_0 11 rfl rfl)
theorem dX7_sum_14 : decode cX7_sum 14 = .ok (.istore 4, 2) := dk_54 4 (dk_at dksX7_sum_0 14 rfl rfl)
theorem dX7_sum_16 : decode cX7_sum 16 = .ok (.iload_n 1, 1) := dk_27 (dk_at dksX7_sum_0 16 rfl rfl)
theorem dX7_sum_17 : decode cX7_sum 17 = .ok (.iconst 2, 1) := dk_5 (dk_at dksX7_sum_0 17 rfl rfl)
theorem dX7_sum_18 : decode cX7_sum 18 = .ok (.irem, 1) := dk_112 (dk_at dksX7_sum_0 18 rfl rfl)
theorem dX7_sum_19 : decode cX7_sum 19 = .ok (.iconst 1, 1) := dk_4 (dk_at dksX7_sum_0 19 rfl rfl)
theorem dX7_sum_20 : decode cX7_sum 20 = .ok (.if_icmp .ne 18, 3) := dk_160 0 18 (dk_at dksX7_sum_0 20 rfl rfl)
theorem dX7_sum_23 : decode cX7_sum 23 = .ok (.iload_n 2, 1) := dk_28 (dk_at dksX7_sum_0 23 rfl rfl)
theorem dX7_sum_24 : decode cX7_sum 24 = .ok (.aload_n 0, 1) := dk_42 (dk_at dksX7_sum_1 0 rfl rfl)
theorem dX7_sum_25 : decode cX7_sum 25 = .ok (.getfield 23, 3) := dk_180 0 23 (dk_at dksX7_sum_1 1 rfl rfl)
theorem dX7_sum_28 : decode cX7_sum 28 = .ok (.iload_n 3, 1) := dk_29 (dk_at dksX7_sum_1 4 rfl rfl)
theorem dX7_sum_29 : decode cX7_sum 29 = .ok (.iconst 1, 1) := dk_4 (dk_at dksX7_sum_1 5 rfl rfl)
theorem dX7_sum_30 : decode cX7_sum 30 = .ok (.iadd, 1) := dk_96 (dk_at dksX7_sum_1 6 rfl rfl)
theorem dX7_sum_31 : decode cX7_sum 31 = .ok (.imul, 1) := dk_104 (dk_at dksX7_sum_1 7 rfl rfl)
theorem dX7_sum_32 : decode cX7_sum 32 = .ok (.invokestatic 32, 3) := dk_184 0 32 (dk_at dksX7_sum_1 8 rfl rfl)
theorem dX7_sum_35 : decode cX7_sum 35 = .ok (.goto 4, 3) := dk_167 0 4 (dk_at dksX7_sum_1 11 rfl rfl)
theorem dX7_sum_38 : decode cX7_sum 38 = .ok (.iconst 0, 1) := dk_3 (dk_at dksX7_sum_1 14 rfl rfl)
theorem dX7_sum_39 : decode cX7_sum 39 = .ok (.istore 5, 2) := dk_54 5 (dk_at dksX7_sum_1 15 rfl rfl)
theorem dX7_sum_41 : decode cX7_sum 41 = .ok (.aload_n 0, 1) := dk_42 (dk_at dksX7_sum_1 17 rfl rfl)
theorem dX7_sum_42 : decode cX7_sum 42 = .ok (.getfield 23, 3) := dk_180 0 23 (dk_at dksX7_sum_1 18 rfl rfl)
theorem dX7_sum_45 : decode cX7_sum 45 = .ok (.iload 4, 2) := dk_21 4 (dk_at dksX7_sum_1 21 rfl rfl)
theorem dX7_sum_47 : decode cX7_sum 47 = .ok (.imul, 1) := dk_104 (dk_at dksX7_sum_1 23 rfl rfl)
theorem dX7_sum_48 : decode cX7_sum 48 = .ok (.iload 4, 2) := dk_21 4 (dk_at dksX7_sum_2 0 rfl rfl)
theorem dX7_sum_50 : decode cX7_sum 50 = .ok (.iconst 1, 1) := dk_4 (dk_at dksX7_sum_2 2 rfl rfl)
theorem dX7_sum_51 : decode cX7_sum 51 = .ok (.iadd, 1) := dk_96 (dk_at dksX7_sum_2 3 rfl rfl)
theorem dX7_sum_52 : decode cX7_sum 52 = .ok (.imul, 1) := dk_104 (dk_at dksX7_sum_2 4 rfl rfl)
theorem dX7_sum_53 : decode cX7_sum 53 = .ok (.iconst 2, 1) := dk_5 (dk_at dksX7_sum_2 5 rfl rfl)
theorem dX7_sum_54 : decode cX7_sum 54 = .ok (.iload_n 3, 1) := dk_29 (dk_at dksX7_sum_2 6 rfl rfl)
theorem dX7_sum_55 : decode cX7_sum 55 = .ok (.iload 4, 2) := dk_21 4 (dk_at dksX7_sum_2 7 rfl rfl)
theorem dX7_sum_57 : decode cX7_sum 57 = .ok (.isub, 1) := dk_100 (dk_at dksX7_sum_2 9 rfl rfl)
theorem dX7_sum_58 : decode cX7_sum 58 = .ok (.imul, 1) := dk_104 (dk_at dksX7_sum_2 10 rfl rfl)
theorem dX7_sum_59 : decode cX7_sum 59 = .ok (.iload_n 2, 1) := dk_28 (dk_at dksX7_sum_2 11 rfl rfl)
theorem dX7_sum_60 : decode cX7_sum 60 = .ok (.imul, 1) := dk_104 (dk_at dksX7_sum_2 12 rfl rfl)
theorem dX7_sum_61 : decode cX7_sum 61 = .ok (.iadd, 1) := dk_96 (dk_at dksX7_sum_2 13 rfl rfl)
theorem dX7_sum_62 : decode cX7_sum 62 = .ok (.iload 5, 2) := dk_21 5 (dk_at dksX7_sum_2 14 rfl rfl)
theorem dX7_sum_64 : decode cX7_sum 64 = .ok (.iadd, 1) := dk_96 (dk_at dksX7_sum_2 16 rfl rfl)
theorem dX7_sum_65 : decode cX7_sum 65 = .ok (.ireturn, 1) := dk_172 (dk_at dksX7_sum_2 17 rfl rfl)
abbrev cX7_init : ByteArray := prog_4_method_1_code
def yX7_init : MethodName := ⟨RX7, "<init>", "(Ljava/lang/String;IIIII)V"⟩
def dkwX7_init_1 : List UInt8 := [181, 0, 20, 42, 21, 5, 181, 0, 23, 42, 21, 6, 181, 0, 26, 177]
abbrev dktX7_init_1 : List UInt8 := dkwX7_init_1 ++ []
def dkwX7_init_0 : List UInt8 := [42, 183, 0, 1, 42, 43, 181, 0, 7, 42, 28, 181, 0, 13, 42, 29, 181, 0, 17, 42, 21, 4]
abbrev dktX7_init_0 : List UInt8 := dkwX7_init_0 ++ dktX7_init_1
theorem dksX7_init_0 : cX7_init.data.toList.drop 0 = dktX7_init_0 := by decide +kernel
theorem dksX7_init_1 : cX7_init.data.toList.drop 22 = dktX7_init_1 := dk_seg dksX7_init_0 22 rfl rfl
theorem dX7_init_0 : decode cX7_init 0 = .ok (.aload_n 0, 1) := dk_42 (dk_at dksX7_init_0 0 rfl rfl)
theorem dX7_init_1 : decode cX7_init 1 = .ok (.invokespecial 1, 3) := dk_183 0 1 (dk_at dksX7_init_0 1 rfl rfl)
theorem dX7_init_4 : decode cX7_init 4 = .ok (.aload_n 0, 1) := dk_42 (dk_at dksX7_init_0 4 rfl rfl)
theorem dX7_init_5 : decode cX7_init 5 = .ok (.aload_n 1, 1) := dk_43 (dk_at dksX7_init_0 5 rfl rfl)
theorem dX7_init_6 : decode cX7_init 6 = .ok (.putfield 7, 3) := dk_181 0 7 (dk_at dksX7_init_0 6 rfl rfl)
theorem dX7_init_9 : decode cX7_init 9 = .ok (.aload_n 0, 1) := dk_42 (dk_at dksX7_init_0 9 rfl rfl)
theorem dX7_init_10 : decode cX7_init 10 = .ok (.iload_n 2, 1) := dk_28 (dk_at dksX7_init_0 10 rfl rfl)
theorem dX7_init_11 : decode cX7_init 11 = .ok (.putfield 13, 3) := dk_181 0 13 (dk_at dksX7_init_0 11 rfl rfl)
theorem dX7_init_14 : decode cX7_init 14 = .ok (.aload_n 0, 1) := dk_42 (dk_at dksX7_init_0 14 rfl rfl)
theorem dX7_init_15 : decode cX7_init 15 = .ok (.iload_n 3, 1) := dk_29 (dk_at dksX7_init_0 15 rfl rfl)
theorem dX7_init_16 : decode cX7_init 16 = .ok (.putfield 17, 3) := dk_181 0 17 (dk_at dksX7_init_0 16 rfl rfl)
theorem dX7_init_19 : decode cX7_init 19 = .ok (.aload_n 0, 1) := dk_42 (dk_at dksX7_init_0 19 rfl rfl)
theorem dX7_init_20 : decode cX7_init 20 = .ok (.iload 4, 2) := dk_21 4 (dk_at dksX7_init_0 20 rfl rfl)
theorem dX7_init_22 : decode cX7_init 22 = .ok (.putfield 20, 3) := dk_181 0 20 (dk_at dksX7_init_1 0 rfl rfl)
theorem dX7_init_25 : decode cX7_init 25 = .ok (.aload_n 0, 1) := dk_42 (dk_at dksX7_init_1 3 rfl rfl)
theorem dX7_init_26 : decode cX7_init 26 = .ok (.iload 5, 2) := dk_21 5 (dk_at dksX7_init_1 4 rfl rfl)
theorem dX7_init_28 : decode cX7_init 28 = .ok (.putfield 23, 3) := dk_181 0 23 (dk_at dksX7_init_1 6 rfl rfl)
theorem dX7_init_31 : decode cX7_init 31 = .ok (.aload_n 0, 1) := dk_42 (dk_at dksX7_init_1 9 rfl rfl)
theorem dX7_init_32 : decode cX7_init 32 = .ok (.iload 6, 2) := dk_21 6 (dk_at dksX7_init_1 10 rfl rfl)
theorem dX7_init_34 : decode cX7_init 34 = .ok (.putfield 26, 3) := dk_181 0 26 (dk_at dksX7_init_1 12 rfl rfl)
theorem dX7_init_37 : decode cX7_init 37 = .ok (.return_, 1) := dk_177 (dk_at dksX7_init_1 15 rfl rfl)
abbrev cX7_least : ByteArray := prog_4_method_5_code
def yX7_least : MethodName := ⟨RX7, "least", "(I)I"⟩
def dkwX7_least_0 : List UInt8 := [3, 61, 42, 28, 182, 0, 41, 27, 184, 0, 45, 162, 0, 9, 132, 2, 1, 167, 255, 241, 28, 172]
abbrev dktX7_least_0 : List UInt8 := dkwX7_least_0 ++ []
theorem dksX7_least_0 : cX7_least.data.toList.drop 0 = dktX7_least_0 := by decide +kernel
theorem dX7_least_0 : decode cX7_least 0 = .ok (.iconst 0, 1) := dk_3 (dk_at dksX7_least_0 0 rfl rfl)
theorem dX7_least_1 : decode cX7_least 1 = .ok (.istore_n 2, 1) := dk_61 (dk_at dksX7_least_0 1 rfl rfl)
theorem dX7_least_2 : decode cX7_least 2 = .ok (.aload_n 0, 1) := dk_42 (dk_at dksX7_least_0 2 rfl rfl)
theorem dX7_least_3 : decode cX7_least 3 = .ok (.iload_n 2, 1) := dk_28 (dk_at dksX7_least_0 3 rfl rfl)
theorem dX7_least_4 : decode cX7_least 4 = .ok (.invokevirtual 41, 3) := dk_182 0 41 (dk_at dksX7_least_0 4 rfl rfl)
theorem dX7_least_7 : decode cX7_least 7 = .ok (.iload_n 1, 1) := dk_27 (dk_at dksX7_least_0 7 rfl rfl)
theorem dX7_least_8 : decode cX7_least 8 = .ok (.invokestatic 45, 3) := dk_184 0 45 (dk_at dksX7_least_0 8 rfl rfl)
theorem dX7_least_11 : decode cX7_least 11 = .ok (.if_icmp .ge 9, 3) := dk_162 0 9 (dk_at dksX7_least_0 11 rfl rfl)
theorem dX7_least_14 : decode cX7_least 14 = .ok (.iinc 2 1, 3) := dk_132 2 1 (dk_at dksX7_least_0 14 rfl rfl)
theorem dX7_least_17 : decode cX7_least 17 = .ok (.goto (-15), 3) := dk_167 255 241 (dk_at dksX7_least_0 17 rfl rfl)
theorem dX7_least_20 : decode cX7_least 20 = .ok (.iload_n 2, 1) := dk_28 (dk_at dksX7_least_0 20 rfl rfl)
theorem dX7_least_21 : decode cX7_least 21 = .ok (.ireturn, 1) := dk_172 (dk_at dksX7_least_0 21 rfl rfl)
abbrev cX7_copy : ByteArray := prog_4_method_2_code
def yX7_copy : MethodName := ⟨RX7, "copy", "()LCameraMoves$Axis;"⟩
def dkwX7_copy_1 : List UInt8 := [42, 180, 0, 26, 183, 0, 29, 176]
abbrev dktX7_copy_1 : List UInt8 := dkwX7_copy_1 ++ []
def dkwX7_copy_0 : List UInt8 := [187, 0, 8, 89, 42, 180, 0, 7, 42, 180, 0, 13, 42, 180, 0, 17, 42, 180, 0, 20, 42, 180, 0, 23]
abbrev dktX7_copy_0 : List UInt8 := dkwX7_copy_0 ++ dktX7_copy_1
theorem dksX7_copy_0 : cX7_copy.data.toList.drop 0 = dktX7_copy_0 := by decide +kernel
theorem dksX7_copy_1 : cX7_copy.data.toList.drop 24 = dktX7_copy_1 := dk_seg dksX7_copy_0 24 rfl rfl
theorem dX7_copy_0 : decode cX7_copy 0 = .ok (.new 8, 3) := dk_187 0 8 (dk_at dksX7_copy_0 0 rfl rfl)
theorem dX7_copy_3 : decode cX7_copy 3 = .ok (.dup, 1) := dk_89 (dk_at dksX7_copy_0 3 rfl rfl)
theorem dX7_copy_4 : decode cX7_copy 4 = .ok (.aload_n 0, 1) := dk_42 (dk_at dksX7_copy_0 4 rfl rfl)
theorem dX7_copy_5 : decode cX7_copy 5 = .ok (.getfield 7, 3) := dk_180 0 7 (dk_at dksX7_copy_0 5 rfl rfl)
theorem dX7_copy_8 : decode cX7_copy 8 = .ok (.aload_n 0, 1) := dk_42 (dk_at dksX7_copy_0 8 rfl rfl)
theorem dX7_copy_9 : decode cX7_copy 9 = .ok (.getfield 13, 3) := dk_180 0 13 (dk_at dksX7_copy_0 9 rfl rfl)
theorem dX7_copy_12 : decode cX7_copy 12 = .ok (.aload_n 0, 1) := dk_42 (dk_at dksX7_copy_0 12 rfl rfl)
theorem dX7_copy_13 : decode cX7_copy 13 = .ok (.getfield 17, 3) := dk_180 0 17 (dk_at dksX7_copy_0 13 rfl rfl)
theorem dX7_copy_16 : decode cX7_copy 16 = .ok (.aload_n 0, 1) := dk_42 (dk_at dksX7_copy_0 16 rfl rfl)
theorem dX7_copy_17 : decode cX7_copy 17 = .ok (.getfield 20, 3) := dk_180 0 20 (dk_at dksX7_copy_0 17 rfl rfl)
theorem dX7_copy_20 : decode cX7_copy 20 = .ok (.aload_n 0, 1) := dk_42 (dk_at dksX7_copy_0 20 rfl rfl)
theorem dX7_copy_21 : decode cX7_copy 21 = .ok (.getfield 23, 3) := dk_180 0 23 (dk_at dksX7_copy_0 21 rfl rfl)
theorem dX7_copy_24 : decode cX7_copy 24 = .ok (.aload_n 0, 1) := dk_42 (dk_at dksX7_copy_1 0 rfl rfl)
theorem dX7_copy_25 : decode cX7_copy 25 = .ok (.getfield 26, 3) := dk_180 0 26 (dk_at dksX7_copy_1 1 rfl rfl)
theorem dX7_copy_28 : decode cX7_copy 28 = .ok (.invokespecial 29, 3) := dk_183 0 29 (dk_at dksX7_copy_1 4 rfl rfl)
theorem dX7_copy_31 : decode cX7_copy 31 = .ok (.areturn, 1) := dk_176 (dk_at dksX7_copy_1 7 rfl rfl)
theorem q136 : (Jvm.Cond.initialized "CameraMoves$Axis") ∈ lw_all := lw_g (lw_at lw_m1 29 rfl) rfl
theorem q786 : (Jvm.Cond.instanceMethod ({ cls := "CameraMoves$Axis", name := "reach", desc := "(I)I" } : Jvm.MethodName)) ∈ lw_all := lw_g (lw_at lw_m3 199 rfl) rfl
theorem q787 : (Jvm.Cond.selects "CameraMoves$Axis" ({ cls := "CameraMoves$Axis", name := "reach", desc := "(I)I" } : Jvm.MethodName) ({ cls := "CameraMoves$Axis", name := "reach", desc := "(I)I" } : Jvm.MethodName)) ∈ lw_all := lw_g (lw_at lw_m3 200 rfl) rfl
theorem q788 : (Jvm.Cond.code ({ cls := "CameraMoves$Axis", name := "reach", desc := "(I)I" } : Jvm.MethodName) prog_4_method_4_code (2 : Nat) (Option.some Jvm.ClassFile.FieldType.int)) ∈ lw_all := lw_g (lw_at lw_m3 201 rfl) rfl
theorem q789 : (Jvm.Cond.methodLink "CameraMoves$Axis" (38 : Nat) ({ cls := "CameraMoves$Axis", name := "sum", desc := "(II)I" } : Jvm.MethodName)) ∈ lw_all := lw_g (lw_at lw_m3 202 rfl) rfl
theorem q790 : (Jvm.Cond.instanceMethod ({ cls := "CameraMoves$Axis", name := "sum", desc := "(II)I" } : Jvm.MethodName)) ∈ lw_all := lw_g (lw_at lw_m3 203 rfl) rfl
theorem q791 : (Jvm.Cond.selects "CameraMoves$Axis" ({ cls := "CameraMoves$Axis", name := "sum", desc := "(II)I" } : Jvm.MethodName) ({ cls := "CameraMoves$Axis", name := "sum", desc := "(II)I" } : Jvm.MethodName)) ∈ lw_all := lw_g (lw_at lw_m3 204 rfl) rfl
theorem q792 : (Jvm.Cond.code ({ cls := "CameraMoves$Axis", name := "sum", desc := "(II)I" } : Jvm.MethodName) prog_4_method_3_code (6 : Nat) (Option.some Jvm.ClassFile.FieldType.int)) ∈ lw_all := lw_g (lw_at lw_m3 205 rfl) rfl
theorem q793 : (Jvm.Cond.methodLink "CameraMoves$Axis" (32 : Nat) ({ cls := "java/lang/Math", name := "min", desc := "(II)I" } : Jvm.MethodName)) ∈ lw_all := lw_g (lw_at lw_m3 206 rfl) rfl
theorem q1142 : (Jvm.Cond.instantiable "CameraMoves$Axis" (6 : Nat)) ∈ lw_all := lw_g (lw_at lw_m5 75 rfl) rfl
theorem q1144 : (Jvm.Cond.instanceMethod ({ cls := "CameraMoves$Axis", name := "<init>", desc := "(Ljava/lang/String;IIIII)V" } : Jvm.MethodName)) ∈ lw_all := lw_g (lw_at lw_m5 77 rfl) rfl
theorem q1145 : (Jvm.Cond.code ({ cls := "CameraMoves$Axis", name := "<init>", desc := "(Ljava/lang/String;IIIII)V" } : Jvm.MethodName) prog_4_method_1_code (7 : Nat) (Option.none : Option Jvm.ClassFile.FieldType)) ∈ lw_all := lw_g (lw_at lw_m5 78 rfl) rfl
theorem q1146 : (Jvm.Cond.methodLink "CameraMoves$Axis" (1 : Nat) ({ cls := "java/lang/Object", name := "<init>", desc := "()V" } : Jvm.MethodName)) ∈ lw_all := lw_g (lw_at lw_m5 79 rfl) rfl
theorem q1147 : (Jvm.Cond.fieldLink "CameraMoves$Axis" (7 : Nat) "CameraMoves$Axis" "name" "Ljava/lang/String;") ∈ lw_all := lw_g (lw_at lw_m5 80 rfl) rfl
theorem q1150 : (Jvm.Cond.fieldLink "CameraMoves$Axis" (13 : Nat) "CameraMoves$Axis" "low" "I") ∈ lw_all := lw_g (lw_at lw_m5 83 rfl) rfl
theorem q1153 : (Jvm.Cond.fieldLink "CameraMoves$Axis" (17 : Nat) "CameraMoves$Axis" "high" "I") ∈ lw_all := lw_g (lw_at lw_m5 86 rfl) rfl
theorem q1156 : (Jvm.Cond.fieldLink "CameraMoves$Axis" (26 : Nat) "CameraMoves$Axis" "start" "I") ∈ lw_all := lw_g (lw_at lw_m5 89 rfl) rfl
theorem q1159 : (Jvm.Cond.fieldLink "CameraMoves$Axis" (20 : Nat) "CameraMoves$Axis" "speed" "I") ∈ lw_all := lw_g (lw_at lw_m5 92 rfl) rfl
theorem q1162 : (Jvm.Cond.fieldLink "CameraMoves$Axis" (23 : Nat) "CameraMoves$Axis" "ramp" "I") ∈ lw_all := lw_g (lw_at lw_m5 95 rfl) rfl
theorem q1165 : (Jvm.Cond.laysFinal "CameraMoves$Axis" "CameraMoves$Axis" "name" "Ljava/lang/String;") ∈ lw_all := lw_g (lw_at lw_m5 98 rfl) rfl
theorem q1166 : (Jvm.Cond.soleField "CameraMoves$Axis" "name") ∈ lw_all := lw_g (lw_at lw_m5 99 rfl) rfl
theorem q1167 : (Jvm.Cond.laysFinal "CameraMoves$Axis" "CameraMoves$Axis" "low" "I") ∈ lw_all := lw_g (lw_at lw_m5 100 rfl) rfl
theorem q1168 : (Jvm.Cond.soleField "CameraMoves$Axis" "low") ∈ lw_all := lw_g (lw_at lw_m5 101 rfl) rfl
theorem q1169 : (Jvm.Cond.laysFinal "CameraMoves$Axis" "CameraMoves$Axis" "high" "I") ∈ lw_all := lw_g (lw_at lw_m5 102 rfl) rfl
theorem q1170 : (Jvm.Cond.soleField "CameraMoves$Axis" "high") ∈ lw_all := lw_g (lw_at lw_m5 103 rfl) rfl
theorem q1171 : (Jvm.Cond.laysFinal "CameraMoves$Axis" "CameraMoves$Axis" "start" "I") ∈ lw_all := lw_g (lw_at lw_m5 104 rfl) rfl
theorem q1172 : (Jvm.Cond.soleField "CameraMoves$Axis" "start") ∈ lw_all := lw_g (lw_at lw_m5 105 rfl) rfl
theorem q1173 : (Jvm.Cond.lays "CameraMoves$Axis" "CameraMoves$Axis" "speed" "I") ∈ lw_all := lw_g (lw_at lw_m5 106 rfl) rfl
theorem q1174 : (Jvm.Cond.soleField "CameraMoves$Axis" "speed") ∈ lw_all := lw_g (lw_at lw_m5 107 rfl) rfl
theorem q1175 : (Jvm.Cond.lays "CameraMoves$Axis" "CameraMoves$Axis" "ramp" "I") ∈ lw_all := lw_g (lw_at lw_m5 108 rfl) rfl
theorem q1176 : (Jvm.Cond.soleField "CameraMoves$Axis" "ramp") ∈ lw_all := lw_g (lw_at lw_m5 109 rfl) rfl
theorem q1177 : (Jvm.Cond.superclass "CameraMoves$Axis" "java/lang/Object") ∈ lw_all := lw_g (lw_at lw_m5 110 rfl) rfl
theorem q1206 : (Jvm.Cond.selects "CameraMoves$Axis" ({ cls := "java/lang/Object", name := "getClass", desc := "()Ljava/lang/Class;" } : Jvm.MethodName) ({ cls := "java/lang/Object", name := "getClass", desc := "()Ljava/lang/Class;" } : Jvm.MethodName)) ∈ lw_all := lw_g (lw_at lw_m5 139 rfl) rfl
theorem q1446 : (Jvm.Cond.instanceMethod ({ cls := "CameraMoves$Axis", name := "least", desc := "(I)I" } : Jvm.MethodName)) ∈ lw_all := lw_g (lw_at lw_m6 139 rfl) rfl
theorem q1447 : (Jvm.Cond.selects "CameraMoves$Axis" ({ cls := "CameraMoves$Axis", name := "least", desc := "(I)I" } : Jvm.MethodName) ({ cls := "CameraMoves$Axis", name := "least", desc := "(I)I" } : Jvm.MethodName)) ∈ lw_all := lw_g (lw_at lw_m6 140 rfl) rfl
theorem q1448 : (Jvm.Cond.code ({ cls := "CameraMoves$Axis", name := "least", desc := "(I)I" } : Jvm.MethodName) prog_4_method_5_code (3 : Nat) (Option.some Jvm.ClassFile.FieldType.int)) ∈ lw_all := lw_g (lw_at lw_m6 141 rfl) rfl
theorem q1449 : (Jvm.Cond.methodLink "CameraMoves$Axis" (41 : Nat) ({ cls := "CameraMoves$Axis", name := "reach", desc := "(I)I" } : Jvm.MethodName)) ∈ lw_all := lw_g (lw_at lw_m6 142 rfl) rfl
theorem q1450 : (Jvm.Cond.methodLink "CameraMoves$Axis" (45 : Nat) ({ cls := "java/lang/Math", name := "abs", desc := "(I)I" } : Jvm.MethodName)) ∈ lw_all := lw_g (lw_at lw_m6 143 rfl) rfl
theorem q1724 : (Jvm.Cond.instanceMethod ({ cls := "CameraMoves$Axis", name := "copy", desc := "()LCameraMoves$Axis;" } : Jvm.MethodName)) ∈ lw_all := lw_g (lw_at lw_m7 177 rfl) rfl
theorem q1725 : (Jvm.Cond.selects "CameraMoves$Axis" ({ cls := "CameraMoves$Axis", name := "copy", desc := "()LCameraMoves$Axis;" } : Jvm.MethodName) ({ cls := "CameraMoves$Axis", name := "copy", desc := "()LCameraMoves$Axis;" } : Jvm.MethodName)) ∈ lw_all := lw_g (lw_at lw_m7 178 rfl) rfl
theorem q1726 : (Jvm.Cond.code ({ cls := "CameraMoves$Axis", name := "copy", desc := "()LCameraMoves$Axis;" } : Jvm.MethodName) prog_4_method_2_code (1 : Nat) (Option.some (Jvm.ClassFile.FieldType.object "CameraMoves$Axis"))) ∈ lw_all := lw_g (lw_at lw_m7 179 rfl) rfl
theorem q1727 : (Jvm.Cond.classLink "CameraMoves$Axis" (8 : Nat) "CameraMoves$Axis") ∈ lw_all := lw_g (lw_at lw_m7 180 rfl) rfl
theorem q1728 : (Jvm.Cond.methodLink "CameraMoves$Axis" (29 : Nat) ({ cls := "CameraMoves$Axis", name := "<init>", desc := "(Ljava/lang/String;IIIII)V" } : Jvm.MethodName)) ∈ lw_all := lw_g (lw_at lw_m7 181 rfl) rfl
theorem q2683 : (Jvm.Cond.castable "CameraMoves$Axis" "java/lang/Object") ∈ lw_tbl := lw_at lw_m11 176 rfl
theorem in_X7 : ∀ w ∈ wsX70, w ∈ lw_all := lw_in wsX70 [1165, 1167, 1169, 1171, 1173, 1175] (by decide +kernel) (by decide +kernel)

/-! CameraMoves$Cue -/
set_option maxRecDepth 100000
def RX8 : String := "CameraMoves$Cue"
def TX8 : u_T := fun k => match k with
  | 0 => ("CameraMoves$Cue", "targets", "[I", true)
  | 1 => ("CameraMoves$Cue", "frame", "I", false)
  | 2 => ("CameraMoves$Cue", "length", "I", false)
  | _ => ("CameraMoves$Cue", "axes", "I", false)
def tyX8 : Nat → FieldType := fun k => match k with
  | 0 => .array .int
  | 1 => .int
  | 2 => .int
  | _ => .int
abbrev wsX80 : List Cond := u_ws RX8 TX8 4
theorem nmX8 : ∀ a, a < 4 → ∀ b, b < 4 → a ≠ b → (TX8 a).2.1 ≠ (TX8 b).2.1 := by decide +kernel
theorem tyX8_ok : ∀ k, k < 4 → parseFieldDescriptor (TX8 k).2.2.1 = some (tyX8 k) := by decide +kernel
abbrev cX8_init : ByteArray := prog_5_method_1_code
def yX8_init : MethodName := ⟨RX8, "<init>", "(II)V"⟩
def dkwX8_init_0 : List UInt8 := [42, 183, 0, 3, 42, 7, 188, 10, 181, 0, 9, 42, 27, 181, 0, 15, 42, 28, 181, 0, 19, 177]
abbrev dktX8_init_0 : List UInt8 := dkwX8_init_0 ++ []
theorem dksX8_init_0 : cX8_init.data.toList.drop 0 = dktX8_init_0 := by decide +kernel
theorem dX8_init_0 : decode cX8_init 0 = .ok (.aload_n 0, 1) := dk_42 (dk_at dksX8_init_0 0 rfl rfl)
theorem dX8_init_1 : decode cX8_init 1 = .ok (.invokespecial 3, 3) := dk_183 0 3 (dk_at dksX8_init_0 1 rfl rfl)
theorem dX8_init_4 : decode cX8_init 4 = .ok (.aload_n 0, 1) := dk_42 (dk_at dksX8_init_0 4 rfl rfl)
theorem dX8_init_5 : decode cX8_init 5 = .ok (.iconst 4, 1) := dk_7 (dk_at dksX8_init_0 5 rfl rfl)
theorem dX8_init_6 : decode cX8_init 6 = .ok (.newarray .int, 2) := dk_188_10 (dk_at dksX8_init_0 6 rfl rfl)
theorem dX8_init_8 : decode cX8_init 8 = .ok (.putfield 9, 3) := dk_181 0 9 (dk_at dksX8_init_0 8 rfl rfl)
theorem dX8_init_11 : decode cX8_init 11 = .ok (.aload_n 0, 1) := dk_42 (dk_at dksX8_init_0 11 rfl rfl)
theorem dX8_init_12 : decode cX8_init 12 = .ok (.iload_n 1, 1) := dk_27 (dk_at dksX8_init_0 12 rfl rfl)
theorem dX8_init_13 : decode cX8_init 13 = .ok (.putfield 15, 3) := dk_181 0 15 (dk_at dksX8_init_0 13 rfl rfl)
theorem dX8_init_16 : decode cX8_init 16 = .ok (.aload_n 0, 1) := dk_42 (dk_at dksX8_init_0 16 rfl rfl)
theorem dX8_init_17 : decode cX8_init 17 = .ok (.iload_n 2, 1) := dk_28 (dk_at dksX8_init_0 17 rfl rfl)
theorem dX8_init_18 : decode cX8_init 18 = .ok (.putfield 19, 3) := dk_181 0 19 (dk_at dksX8_init_0 18 rfl rfl)
theorem dX8_init_21 : decode cX8_init 21 = .ok (.return_, 1) := dk_177 (dk_at dksX8_init_0 21 rfl rfl)
abbrev cX8_aim : ByteArray := prog_5_method_3_code
def yX8_aim : MethodName := ⟨RX8, "aim", "(II)V"⟩
def dkwX8_aim_0 : List UInt8 := [42, 89, 180, 0, 31, 4, 27, 120, 128, 181, 0, 31, 42, 180, 0, 9, 27, 28, 79, 177]
abbrev dktX8_aim_0 : List UInt8 := dkwX8_aim_0 ++ []
theorem dksX8_aim_0 : cX8_aim.data.toList.drop 0 = dktX8_aim_0 := by decide +kernel
theorem dX8_aim_0 : decode cX8_aim 0 = .ok (.aload_n 0, 1) := dk_42 (dk_at dksX8_aim_0 0 rfl rfl)
theorem dX8_aim_1 : decode cX8_aim 1 = .ok (.dup, 1) := dk_89 (dk_at dksX8_aim_0 1 rfl rfl)
theorem dX8_aim_2 : decode cX8_aim 2 = .ok (.getfield 31, 3) := dk_180 0 31 (dk_at dksX8_aim_0 2 rfl rfl)
theorem dX8_aim_5 : decode cX8_aim 5 = .ok (.iconst 1, 1) := dk_4 (dk_at dksX8_aim_0 5 rfl rfl)
theorem dX8_aim_6 : decode cX8_aim 6 = .ok (.iload_n 1, 1) := dk_27 (dk_at dksX8_aim_0 6 rfl rfl)
theorem dX8_aim_7 : decode cX8_aim 7 = .ok (.ishl, 1) := dk_120 (dk_at dksX8_aim_0 7 rfl rfl)
theorem dX8_aim_8 : decode cX8_aim 8 = .ok (.ior, 1) := dk_128 (dk_at dksX8_aim_0 8 rfl rfl)
theorem dX8_aim_9 : decode cX8_aim 9 = .ok (.putfield 31, 3) := dk_181 0 31 (dk_at dksX8_aim_0 9 rfl rfl)
theorem dX8_aim_12 : decode cX8_aim 12 = .ok (.aload_n 0, 1) := dk_42 (dk_at dksX8_aim_0 12 rfl rfl)
theorem dX8_aim_13 : decode cX8_aim 13 = .ok (.getfield 9, 3) := dk_180 0 9 (dk_at dksX8_aim_0 13 rfl rfl)
theorem dX8_aim_16 : decode cX8_aim 16 = .ok (.iload_n 1, 1) := dk_27 (dk_at dksX8_aim_0 16 rfl rfl)
theorem dX8_aim_17 : decode cX8_aim 17 = .ok (.iload_n 2, 1) := dk_28 (dk_at dksX8_aim_0 17 rfl rfl)
theorem dX8_aim_18 : decode cX8_aim 18 = .ok (.iastore, 1) := dk_79 (dk_at dksX8_aim_0 18 rfl rfl)
theorem dX8_aim_19 : decode cX8_aim 19 = .ok (.return_, 1) := dk_177 (dk_at dksX8_aim_0 19 rfl rfl)
abbrev cX8_copy : ByteArray := prog_5_method_2_code
def yX8_copy : MethodName := ⟨RX8, "copy", "()LCameraMoves$Cue;"⟩
def dkwX8_copy_1 : List UInt8 := [180, 0, 9, 3, 7, 184, 0, 25, 43, 42, 180, 0, 31, 181, 0, 31, 43, 176]
abbrev dktX8_copy_1 : List UInt8 := dkwX8_copy_1 ++ []
def dkwX8_copy_0 : List UInt8 := [187, 0, 10, 89, 42, 180, 0, 15, 42, 180, 0, 19, 183, 0, 22, 76, 42, 180, 0, 9, 3, 43]
abbrev dktX8_copy_0 : List UInt8 := dkwX8_copy_0 ++ dktX8_copy_1
theorem dksX8_copy_0 : cX8_copy.data.toList.drop 0 = dktX8_copy_0 := by decide +kernel
theorem dksX8_copy_1 : cX8_copy.data.toList.drop 22 = dktX8_copy_1 := dk_seg dksX8_copy_0 22 rfl rfl
theorem dX8_copy_0 : decode cX8_copy 0 = .ok (.new 10, 3) := dk_187 0 10 (dk_at dksX8_copy_0 0 rfl rfl)
theorem dX8_copy_3 : decode cX8_copy 3 = .ok (.dup, 1) := dk_89 (dk_at dksX8_copy_0 3 rfl rfl)
theorem dX8_copy_4 : decode cX8_copy 4 = .ok (.aload_n 0, 1) := dk_42 (dk_at dksX8_copy_0 4 rfl rfl)
theorem dX8_copy_5 : decode cX8_copy 5 = .ok (.getfield 15, 3) := dk_180 0 15 (dk_at dksX8_copy_0 5 rfl rfl)
theorem dX8_copy_8 : decode cX8_copy 8 = .ok (.aload_n 0, 1) := dk_42 (dk_at dksX8_copy_0 8 rfl rfl)
theorem dX8_copy_9 : decode cX8_copy 9 = .ok (.getfield 19, 3) := dk_180 0 19 (dk_at dksX8_copy_0 9 rfl rfl)
theorem dX8_copy_12 : decode cX8_copy 12 = .ok (.invokespecial 22, 3) := dk_183 0 22 (dk_at dksX8_copy_0 12 rfl rfl)
theorem dX8_copy_15 : decode cX8_copy 15 = .ok (.astore_n 1, 1) := dk_76 (dk_at dksX8_copy_0 15 rfl rfl)
theorem dX8_copy_16 : decode cX8_copy 16 = .ok (.aload_n 0, 1) := dk_42 (dk_at dksX8_copy_0 16 rfl rfl)
theorem dX8_copy_17 : decode cX8_copy 17 = .ok (.getfield 9, 3) := dk_180 0 9 (dk_at dksX8_copy_0 17 rfl rfl)
theorem dX8_copy_20 : decode cX8_copy 20 = .ok (.iconst 0, 1) := dk_3 (dk_at dksX8_copy_0 20 rfl rfl)
theorem dX8_copy_21 : decode cX8_copy 21 = .ok (.aload_n 1, 1) := dk_43 (dk_at dksX8_copy_0 21 rfl rfl)
theorem dX8_copy_22 : decode cX8_copy 22 = .ok (.getfield 9, 3) := dk_180 0 9 (dk_at dksX8_copy_1 0 rfl rfl)
theorem dX8_copy_25 : decode cX8_copy 25 = .ok (.iconst 0, 1) := dk_3 (dk_at dksX8_copy_1 3 rfl rfl)
theorem dX8_copy_26 : decode cX8_copy 26 = .ok (.iconst 4, 1) := dk_7 (dk_at dksX8_copy_1 4 rfl rfl)
theorem dX8_copy_27 : decode cX8_copy 27 = .ok (.invokestatic 25, 3) := dk_184 0 25 (dk_at dksX8_copy_1 5 rfl rfl)
theorem dX8_copy_30 : decode cX8_copy 30 = .ok (.aload_n 1, 1) := dk_43 (dk_at dksX8_copy_1 8 rfl rfl)
theorem dX8_copy_31 : decode cX8_copy 31 = .ok (.aload_n 0, 1) := dk_42 (dk_at dksX8_copy_1 9 rfl rfl)
theorem dX8_copy_32 : decode cX8_copy 32 = .ok (.getfield 31, 3) := dk_180 0 31 (dk_at dksX8_copy_1 10 rfl rfl)
theorem dX8_copy_35 : decode cX8_copy 35 = .ok (.putfield 31, 3) := dk_181 0 31 (dk_at dksX8_copy_1 13 rfl rfl)
theorem dX8_copy_38 : decode cX8_copy 38 = .ok (.aload_n 1, 1) := dk_43 (dk_at dksX8_copy_1 16 rfl rfl)
theorem dX8_copy_39 : decode cX8_copy 39 = .ok (.areturn, 1) := dk_176 (dk_at dksX8_copy_1 17 rfl rfl)
theorem q137 : (Jvm.Cond.initialized "CameraMoves$Cue") ∈ lw_all := lw_g (lw_at lw_m1 30 rfl) rfl
theorem q1207 : (Jvm.Cond.selects "CameraMoves$Cue" ({ cls := "java/lang/Object", name := "getClass", desc := "()Ljava/lang/Class;" } : Jvm.MethodName) ({ cls := "java/lang/Object", name := "getClass", desc := "()Ljava/lang/Class;" } : Jvm.MethodName)) ∈ lw_all := lw_g (lw_at lw_m5 140 rfl) rfl
theorem q1243 : (Jvm.Cond.instantiable "CameraMoves$Cue" (4 : Nat)) ∈ lw_all := lw_g (lw_at lw_m5 176 rfl) rfl
theorem q1245 : (Jvm.Cond.instanceMethod ({ cls := "CameraMoves$Cue", name := "<init>", desc := "(II)V" } : Jvm.MethodName)) ∈ lw_all := lw_g (lw_at lw_m5 178 rfl) rfl
theorem q1246 : (Jvm.Cond.code ({ cls := "CameraMoves$Cue", name := "<init>", desc := "(II)V" } : Jvm.MethodName) prog_5_method_1_code (3 : Nat) (Option.none : Option Jvm.ClassFile.FieldType)) ∈ lw_all := lw_g (lw_at lw_m5 179 rfl) rfl
theorem q1247 : (Jvm.Cond.methodLink "CameraMoves$Cue" (3 : Nat) ({ cls := "java/lang/Object", name := "<init>", desc := "()V" } : Jvm.MethodName)) ∈ lw_all := lw_g (lw_at lw_m5 180 rfl) rfl
theorem q1248 : (Jvm.Cond.fieldLink "CameraMoves$Cue" (9 : Nat) "CameraMoves$Cue" "targets" "[I") ∈ lw_all := lw_g (lw_at lw_m5 181 rfl) rfl
theorem q1251 : (Jvm.Cond.fieldLink "CameraMoves$Cue" (15 : Nat) "CameraMoves$Cue" "frame" "I") ∈ lw_all := lw_g (lw_at lw_m5 184 rfl) rfl
theorem q1255 : (Jvm.Cond.fieldLink "CameraMoves$Cue" (19 : Nat) "CameraMoves$Cue" "length" "I") ∈ lw_all := lw_g (lw_at lw_m5 188 rfl) rfl
theorem q1258 : (Jvm.Cond.fieldLink "CameraMoves$Cue" (31 : Nat) "CameraMoves$Cue" "axes" "I") ∈ lw_all := lw_g (lw_at lw_m5 191 rfl) rfl
theorem q1263 : (Jvm.Cond.laysFinal "CameraMoves$Cue" "CameraMoves$Cue" "targets" "[I") ∈ lw_all := lw_g (lw_at lw_m5 196 rfl) rfl
theorem q1264 : (Jvm.Cond.soleField "CameraMoves$Cue" "targets") ∈ lw_all := lw_g (lw_at lw_m5 197 rfl) rfl
theorem q1265 : (Jvm.Cond.lays "CameraMoves$Cue" "CameraMoves$Cue" "frame" "I") ∈ lw_all := lw_g (lw_at lw_m5 198 rfl) rfl
theorem q1266 : (Jvm.Cond.soleField "CameraMoves$Cue" "frame") ∈ lw_all := lw_g (lw_at lw_m5 199 rfl) rfl
theorem q1267 : (Jvm.Cond.lays "CameraMoves$Cue" "CameraMoves$Cue" "length" "I") ∈ lw_all := lw_g (lw_at lw_m5 200 rfl) rfl
theorem q1268 : (Jvm.Cond.soleField "CameraMoves$Cue" "length") ∈ lw_all := lw_g (lw_at lw_m5 201 rfl) rfl
theorem q1269 : (Jvm.Cond.lays "CameraMoves$Cue" "CameraMoves$Cue" "axes" "I") ∈ lw_all := lw_g (lw_at lw_m5 202 rfl) rfl
theorem q1270 : (Jvm.Cond.soleField "CameraMoves$Cue" "axes") ∈ lw_all := lw_g (lw_at lw_m5 203 rfl) rfl
theorem q1271 : (Jvm.Cond.superclass "CameraMoves$Cue" "java/lang/Object") ∈ lw_all := lw_g (lw_at lw_m5 204 rfl) rfl
theorem q1278 : (Jvm.Cond.instanceMethod ({ cls := "CameraMoves$Cue", name := "aim", desc := "(II)V" } : Jvm.MethodName)) ∈ lw_all := lw_g (lw_at lw_m5 211 rfl) rfl
theorem q1279 : (Jvm.Cond.selects "CameraMoves$Cue" ({ cls := "CameraMoves$Cue", name := "aim", desc := "(II)V" } : Jvm.MethodName) ({ cls := "CameraMoves$Cue", name := "aim", desc := "(II)V" } : Jvm.MethodName)) ∈ lw_all := lw_g (lw_at lw_m5 212 rfl) rfl
theorem q1280 : (Jvm.Cond.code ({ cls := "CameraMoves$Cue", name := "aim", desc := "(II)V" } : Jvm.MethodName) prog_5_method_3_code (3 : Nat) (Option.none : Option Jvm.ClassFile.FieldType)) ∈ lw_all := lw_g (lw_at lw_m5 213 rfl) rfl
theorem q1732 : (Jvm.Cond.instanceMethod ({ cls := "CameraMoves$Cue", name := "copy", desc := "()LCameraMoves$Cue;" } : Jvm.MethodName)) ∈ lw_all := lw_g (lw_at lw_m7 185 rfl) rfl
theorem q1733 : (Jvm.Cond.selects "CameraMoves$Cue" ({ cls := "CameraMoves$Cue", name := "copy", desc := "()LCameraMoves$Cue;" } : Jvm.MethodName) ({ cls := "CameraMoves$Cue", name := "copy", desc := "()LCameraMoves$Cue;" } : Jvm.MethodName)) ∈ lw_all := lw_g (lw_at lw_m7 186 rfl) rfl
theorem q1734 : (Jvm.Cond.code ({ cls := "CameraMoves$Cue", name := "copy", desc := "()LCameraMoves$Cue;" } : Jvm.MethodName) prog_5_method_2_code (2 : Nat) (Option.some (Jvm.ClassFile.FieldType.object "CameraMoves$Cue"))) ∈ lw_all := lw_g (lw_at lw_m7 187 rfl) rfl
theorem q1735 : (Jvm.Cond.classLink "CameraMoves$Cue" (10 : Nat) "CameraMoves$Cue") ∈ lw_all := lw_g (lw_at lw_m7 188 rfl) rfl
theorem q1736 : (Jvm.Cond.methodLink "CameraMoves$Cue" (22 : Nat) ({ cls := "CameraMoves$Cue", name := "<init>", desc := "(II)V" } : Jvm.MethodName)) ∈ lw_all := lw_g (lw_at lw_m7 189 rfl) rfl
theorem q1737 : (Jvm.Cond.methodLink "CameraMoves$Cue" (25 : Nat) ({ cls := "java/lang/System", name := "arraycopy", desc := "(Ljava/lang/Object;ILjava/lang/Object;II)V" } : Jvm.MethodName)) ∈ lw_all := lw_g (lw_at lw_m7 190 rfl) rfl
theorem q2684 : (Jvm.Cond.castable "CameraMoves$Cue" "java/lang/Object") ∈ lw_tbl := lw_at lw_m11 177 rfl
theorem in_X8 : ∀ w ∈ wsX80, w ∈ lw_all := lw_in wsX80 [1263, 1265, 1267, 1269] (by decide +kernel) (by decide +kernel)

/-! CameraMoves$Wall -/
set_option maxRecDepth 100000
def RX9 : String := "CameraMoves$Wall"
def TX9 : u_T := fun k => match k with
  | 0 => ("CameraMoves$Wall", "axis", "I", true)
  | 1 => ("CameraMoves$Wall", "from", "I", true)
  | 2 => ("CameraMoves$Wall", "to", "I", true)
  | 3 => ("CameraMoves$Wall", "other", "I", true)
  | 4 => ("CameraMoves$Wall", "otherFrom", "I", true)
  | _ => ("CameraMoves$Wall", "otherTo", "I", true)
def tyX9 : Nat → FieldType := fun k => match k with
  | 0 => .int
  | 1 => .int
  | 2 => .int
  | 3 => .int
  | 4 => .int
  | _ => .int
abbrev wsX90 : List Cond := u_ws RX9 TX9 6
theorem nmX9 : ∀ a, a < 6 → ∀ b, b < 6 → a ≠ b → (TX9 a).2.1 ≠ (TX9 b).2.1 := by decide +kernel
theorem tyX9_ok : ∀ k, k < 6 → parseFieldDescriptor (TX9 k).2.2.1 = some (tyX9 k) := by decide +kernel
abbrev cX9_init : ByteArray := prog_15_method_1_code
def yX9_init : MethodName := ⟨RX9, "<init>", "(IIIIII)V"⟩
def dkwX9_init_1 : List UInt8 := [181, 0, 19, 42, 21, 5, 181, 0, 22, 42, 21, 6, 181, 0, 25, 177]
abbrev dktX9_init_1 : List UInt8 := dkwX9_init_1 ++ []
def dkwX9_init_0 : List UInt8 := [42, 183, 0, 1, 42, 27, 181, 0, 7, 42, 28, 181, 0, 13, 42, 29, 181, 0, 16, 42, 21, 4]
abbrev dktX9_init_0 : List UInt8 := dkwX9_init_0 ++ dktX9_init_1
theorem dksX9_init_0 : cX9_init.data.toList.drop 0 = dktX9_init_0 := by decide +kernel
theorem dksX9_init_1 : cX9_init.data.toList.drop 22 = dktX9_init_1 := dk_seg dksX9_init_0 22 rfl rfl
theorem dX9_init_0 : decode cX9_init 0 = .ok (.aload_n 0, 1) := dk_42 (dk_at dksX9_init_0 0 rfl rfl)
theorem dX9_init_1 : decode cX9_init 1 = .ok (.invokespecial 1, 3) := dk_183 0 1 (dk_at dksX9_init_0 1 rfl rfl)
theorem dX9_init_4 : decode cX9_init 4 = .ok (.aload_n 0, 1) := dk_42 (dk_at dksX9_init_0 4 rfl rfl)
theorem dX9_init_5 : decode cX9_init 5 = .ok (.iload_n 1, 1) := dk_27 (dk_at dksX9_init_0 5 rfl rfl)
theorem dX9_init_6 : decode cX9_init 6 = .ok (.putfield 7, 3) := dk_181 0 7 (dk_at dksX9_init_0 6 rfl rfl)
theorem dX9_init_9 : decode cX9_init 9 = .ok (.aload_n 0, 1) := dk_42 (dk_at dksX9_init_0 9 rfl rfl)
theorem dX9_init_10 : decode cX9_init 10 = .ok (.iload_n 2, 1) := dk_28 (dk_at dksX9_init_0 10 rfl rfl)
theorem dX9_init_11 : decode cX9_init 11 = .ok (.putfield 13, 3) := dk_181 0 13 (dk_at dksX9_init_0 11 rfl rfl)
theorem dX9_init_14 : decode cX9_init 14 = .ok (.aload_n 0, 1) := dk_42 (dk_at dksX9_init_0 14 rfl rfl)
theorem dX9_init_15 : decode cX9_init 15 = .ok (.iload_n 3, 1) := dk_29 (dk_at dksX9_init_0 15 rfl rfl)
theorem dX9_init_16 : decode cX9_init 16 = .ok (.putfield 16, 3) := dk_181 0 16 (dk_at dksX9_init_0 16 rfl rfl)
theorem dX9_init_19 : decode cX9_init 19 = .ok (.aload_n 0, 1) := dk_42 (dk_at dksX9_init_0 19 rfl rfl)
theorem dX9_init_20 : decode cX9_init 20 = .ok (.iload 4, 2) := dk_21 4 (dk_at dksX9_init_0 20 rfl rfl)
theorem dX9_init_22 : decode cX9_init 22 = .ok (.putfield 19, 3) := dk_181 0 19 (dk_at dksX9_init_1 0 rfl rfl)
theorem dX9_init_25 : decode cX9_init 25 = .ok (.aload_n 0, 1) := dk_42 (dk_at dksX9_init_1 3 rfl rfl)
theorem dX9_init_26 : decode cX9_init 26 = .ok (.iload 5, 2) := dk_21 5 (dk_at dksX9_init_1 4 rfl rfl)
theorem dX9_init_28 : decode cX9_init 28 = .ok (.putfield 22, 3) := dk_181 0 22 (dk_at dksX9_init_1 6 rfl rfl)
theorem dX9_init_31 : decode cX9_init 31 = .ok (.aload_n 0, 1) := dk_42 (dk_at dksX9_init_1 9 rfl rfl)
theorem dX9_init_32 : decode cX9_init 32 = .ok (.iload 6, 2) := dk_21 6 (dk_at dksX9_init_1 10 rfl rfl)
theorem dX9_init_34 : decode cX9_init 34 = .ok (.putfield 25, 3) := dk_181 0 25 (dk_at dksX9_init_1 12 rfl rfl)
theorem dX9_init_37 : decode cX9_init 37 = .ok (.return_, 1) := dk_177 (dk_at dksX9_init_1 15 rfl rfl)
theorem q138 : (Jvm.Cond.initialized "CameraMoves$Wall") ∈ lw_all := lw_g (lw_at lw_m1 31 rfl) rfl
theorem q1216 : (Jvm.Cond.selects "CameraMoves$Wall" ({ cls := "java/lang/Object", name := "getClass", desc := "()Ljava/lang/Class;" } : Jvm.MethodName) ({ cls := "java/lang/Object", name := "getClass", desc := "()Ljava/lang/Class;" } : Jvm.MethodName)) ∈ lw_all := lw_g (lw_at lw_m5 149 rfl) rfl
theorem q1286 : (Jvm.Cond.instantiable "CameraMoves$Wall" (6 : Nat)) ∈ lw_all := lw_g (lw_at lw_m5 219 rfl) rfl
theorem q1288 : (Jvm.Cond.instanceMethod ({ cls := "CameraMoves$Wall", name := "<init>", desc := "(IIIIII)V" } : Jvm.MethodName)) ∈ lw_all := lw_g (lw_at lw_m5 221 rfl) rfl
theorem q1289 : (Jvm.Cond.code ({ cls := "CameraMoves$Wall", name := "<init>", desc := "(IIIIII)V" } : Jvm.MethodName) prog_15_method_1_code (7 : Nat) (Option.none : Option Jvm.ClassFile.FieldType)) ∈ lw_all := lw_g (lw_at lw_m5 222 rfl) rfl
theorem q1290 : (Jvm.Cond.methodLink "CameraMoves$Wall" (1 : Nat) ({ cls := "java/lang/Object", name := "<init>", desc := "()V" } : Jvm.MethodName)) ∈ lw_all := lw_g (lw_at lw_m5 223 rfl) rfl
theorem q1291 : (Jvm.Cond.fieldLink "CameraMoves$Wall" (7 : Nat) "CameraMoves$Wall" "axis" "I") ∈ lw_all := lw_g (lw_at lw_m5 224 rfl) rfl
theorem q1293 : (Jvm.Cond.fieldLink "CameraMoves$Wall" (13 : Nat) "CameraMoves$Wall" "from" "I") ∈ lw_all := lw_g (lw_at lw_m5 226 rfl) rfl
theorem q1295 : (Jvm.Cond.fieldLink "CameraMoves$Wall" (16 : Nat) "CameraMoves$Wall" "to" "I") ∈ lw_all := lw_g (lw_at lw_m5 228 rfl) rfl
theorem q1297 : (Jvm.Cond.fieldLink "CameraMoves$Wall" (19 : Nat) "CameraMoves$Wall" "other" "I") ∈ lw_all := lw_g (lw_at lw_m5 230 rfl) rfl
theorem q1299 : (Jvm.Cond.fieldLink "CameraMoves$Wall" (22 : Nat) "CameraMoves$Wall" "otherFrom" "I") ∈ lw_all := lw_g (lw_at lw_m5 232 rfl) rfl
theorem q1301 : (Jvm.Cond.fieldLink "CameraMoves$Wall" (25 : Nat) "CameraMoves$Wall" "otherTo" "I") ∈ lw_all := lw_g (lw_at lw_m5 234 rfl) rfl
theorem q1303 : (Jvm.Cond.laysFinal "CameraMoves$Wall" "CameraMoves$Wall" "axis" "I") ∈ lw_all := lw_g (lw_at lw_m5 236 rfl) rfl
theorem q1304 : (Jvm.Cond.soleField "CameraMoves$Wall" "axis") ∈ lw_all := lw_g (lw_at lw_m5 237 rfl) rfl
theorem q1305 : (Jvm.Cond.laysFinal "CameraMoves$Wall" "CameraMoves$Wall" "from" "I") ∈ lw_all := lw_g (lw_at lw_m5 238 rfl) rfl
theorem q1306 : (Jvm.Cond.soleField "CameraMoves$Wall" "from") ∈ lw_all := lw_g (lw_at lw_m5 239 rfl) rfl
theorem q1307 : (Jvm.Cond.laysFinal "CameraMoves$Wall" "CameraMoves$Wall" "to" "I") ∈ lw_all := lw_g (lw_at lw_m6 0 rfl) rfl
theorem q1308 : (Jvm.Cond.soleField "CameraMoves$Wall" "to") ∈ lw_all := lw_g (lw_at lw_m6 1 rfl) rfl
theorem q1309 : (Jvm.Cond.laysFinal "CameraMoves$Wall" "CameraMoves$Wall" "other" "I") ∈ lw_all := lw_g (lw_at lw_m6 2 rfl) rfl
theorem q1310 : (Jvm.Cond.soleField "CameraMoves$Wall" "other") ∈ lw_all := lw_g (lw_at lw_m6 3 rfl) rfl
theorem q1311 : (Jvm.Cond.laysFinal "CameraMoves$Wall" "CameraMoves$Wall" "otherFrom" "I") ∈ lw_all := lw_g (lw_at lw_m6 4 rfl) rfl
theorem q1312 : (Jvm.Cond.soleField "CameraMoves$Wall" "otherFrom") ∈ lw_all := lw_g (lw_at lw_m6 5 rfl) rfl
theorem q1313 : (Jvm.Cond.laysFinal "CameraMoves$Wall" "CameraMoves$Wall" "otherTo" "I") ∈ lw_all := lw_g (lw_at lw_m6 6 rfl) rfl
theorem q1314 : (Jvm.Cond.soleField "CameraMoves$Wall" "otherTo") ∈ lw_all := lw_g (lw_at lw_m6 7 rfl) rfl
theorem q1315 : (Jvm.Cond.superclass "CameraMoves$Wall" "java/lang/Object") ∈ lw_all := lw_g (lw_at lw_m6 8 rfl) rfl
theorem q2685 : (Jvm.Cond.castable "CameraMoves$Wall" "java/lang/Object") ∈ lw_tbl := lw_at lw_m11 178 rfl
theorem in_X9 : ∀ w ∈ wsX90, w ∈ lw_all := lw_in wsX90 [1303, 1305, 1307, 1309, 1311, 1313] (by decide +kernel) (by decide +kernel)
