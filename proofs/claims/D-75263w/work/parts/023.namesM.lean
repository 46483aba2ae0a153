/-! CameraMovesModel -/
set_option maxRecDepth 100000
def RX4 : String := "CameraMovesModel"
def TX4 : u_T := fun k => match k with
  | 0 => ("CameraMovesModel", "thrown", "I", false)
  | 1 => ("CameraMovesModel", "rows", "[I", true)
  | 2 => ("CameraMovesModel", "at", "I", false)
  | 3 => ("CameraMovesModel", "edits", "I", false)
  | 4 => ("CameraMovesModel", "firstEdit", "I", false)
  | 5 => ("CameraMovesModel", "axes", "I", false)
  | 6 => ("CameraMovesModel", "names", "[J", true)
  | 7 => ("CameraMovesModel", "axisRow", "[I", true)
  | 8 => ("CameraMovesModel", "passes", "I", false)
  | 9 => ("CameraMovesModel", "passRow", "[I", true)
  | 10 => ("CameraMovesModel", "buffer", "[B", true)
  | 11 => ("CameraMovesModel", "buffered", "I", false)
  | 12 => ("CameraMovesModel", "errorOffset", "I", false)
  | 13 => ("CameraMovesModel", "formatted", "[C", true)
  | 14 => ("CameraMovesModel", "formattedLength", "I", false)
  | 15 => ("CameraMovesModel", "textLength", "I", false)
  | 16 => ("CameraMovesModel", "next", "I", false)
  | 17 => ("CameraMovesModel", "tokenAt", "I", false)
  | 18 => ("CameraMovesModel", "token", "I", false)
  | 19 => ("CameraMovesModel", "number", "I", false)
  | 20 => ("CameraMovesModel", "word", "J", false)
  | 21 => ("CameraMovesModel", "wrongAt", "I", false)
  | 22 => ("CameraMovesModel", "newAxes", "I", false)
  | 23 => ("CameraMovesModel", "newNames", "[J", true)
  | 24 => ("CameraMovesModel", "newAxisRow", "[I", true)
  | 25 => ("CameraMovesModel", "newPasses", "I", false)
  | 26 => ("CameraMovesModel", "newPassRow", "[I", true)
  | 27 => ("CameraMovesModel", "peak", "I", false)
  | 28 => ("CameraMovesModel", "excess", "I", false)
  | 29 => ("CameraMovesModel", "rampNow", "I", false)
  | 30 => ("CameraMovesModel", "framesNow", "I", false)
  | 31 => ("CameraMovesModel", "sign", "I", false)
  | 32 => ("CameraMovesModel", "status", "[I", true)
  | 33 => ("CameraMovesModel", "distance", "[I", true)
  | 34 => ("CameraMovesModel", "isTaken", "[Z", true)
  | _ => ("CameraMovesModel", "places", "[I", true)
def tyX4 : Nat → FieldType := fun k => match k with
  | 0 => .int
  | 1 => .array .int
  | 2 => .int
  | 3 => .int
  | 4 => .int
  | 5 => .int
  | 6 => .array .long
  | 7 => .array .int
  | 8 => .int
  | 9 => .array .int
  | 10 => .array .byte
  | 11 => .int
  | 12 => .int
  | 13 => .array .char
  | 14 => .int
  | 15 => .int
  | 16 => .int
  | 17 => .int
  | 18 => .int
  | 19 => .int
  | 20 => .long
  | 21 => .int
  | 22 => .int
  | 23 => .array .long
  | 24 => .array .int
  | 25 => .int
  | 26 => .array .int
  | 27 => .int
  | 28 => .int
  | 29 => .int
  | 30 => .int
  | 31 => .int
  | 32 => .array .int
  | 33 => .array .int
  | 34 => .array .boolean
  | _ => .array .int
abbrev wsX40 : List Cond := u_ws RX4 TX4 36
set_option maxRecDepth 100000 in
theorem nmX4 : ∀ a, a < 36 → ∀ b, b < 36 → a ≠ b → (TX4 a).2.1 ≠ (TX4 b).2.1 := by decide +kernel
set_option maxRecDepth 100000 in
theorem tyX4_ok : ∀ k, k < 36 → parseFieldDescriptor (TX4 k).2.2.1 = some (tyX4 k) := by decide +kernel
abbrev cX4_init : ByteArray := prog_17_method_1_code
def yX4_init : MethodName := ⟨RX4, "<init>", "()V"⟩
def dkwX4_init_5 : List UInt8 := [182, 0, 57, 42, 182, 0, 60, 177]
abbrev dktX4_init_5 : List UInt8 := dkwX4_init_5 ++ []
def dkwX4_init_4 : List UInt8 := [16, 20, 188, 4, 181, 0, 46, 42, 17, 15, 160, 188, 10, 181, 0, 50, 42, 2, 181, 0, 53, 42]
abbrev dktX4_init_4 : List UInt8 := dkwX4_init_4 ++ dktX4_init_5
def dkwX4_init_3 : List UInt8 := [16, 12, 188, 10, 181, 0, 37, 42, 16, 20, 188, 10, 181, 0, 40, 42, 16, 20, 188, 10, 181, 0, 43, 42]
abbrev dktX4_init_3 : List UInt8 := dkwX4_init_3 ++ dktX4_init_4
def dkwX4_init_2 : List UInt8 := [16, 120, 188, 5, 181, 0, 27, 42, 7, 188, 11, 181, 0, 31, 42, 16, 12, 188, 10, 181, 0, 34, 42]
abbrev dktX4_init_2 : List UInt8 := dkwX4_init_2 ++ dktX4_init_3
def dkwX4_init_1 : List UInt8 := [188, 10, 181, 0, 17, 42, 16, 12, 188, 10, 181, 0, 20, 42, 17, 2, 88, 188, 8, 181, 0, 23, 42]
abbrev dktX4_init_1 : List UInt8 := dkwX4_init_1 ++ dktX4_init_2
def dkwX4_init_0 : List UInt8 := [42, 183, 0, 1, 42, 17, 8, 184, 188, 10, 181, 0, 7, 42, 7, 188, 11, 181, 0, 13, 42, 16, 12]
abbrev dktX4_init_0 : List UInt8 := dkwX4_init_0 ++ dktX4_init_1
theorem dksX4_init_0 : cX4_init.data.toList.drop 0 = dktX4_init_0 := by decide +kernel
theorem dksX4_init_1 : cX4_init.data.toList.drop 23 = dktX4_init_1 := dk_seg dksX4_init_0 23 rfl rfl
theorem dksX4_init_2 : cX4_init.data.toList.drop 46 = dktX4_init_2 := dk_seg dksX4_init_1 23 rfl rfl
theorem dksX4_init_3 : cX4_init.data.toList.drop 69 = dktX4_init_3 := dk_seg dksX4_init_2 23 rfl rfl
theorem dksX4_init_4 : cX4_init.data.toList.drop 93 = dktX4_init_4 := dk_seg dksX4_init_3 24 rfl rfl
theorem dksX4_init_5 : cX4_init.data.toList.drop 115 = dktX4_init_5 := dk_seg dksX4_init_4 22 rfl rfl
theorem dX4_init_0 : decode cX4_init 0 = .ok (.aload_n 0, 1) := dk_42 (dk_at dksX4_init_0 0 rfl rfl)
theorem dX4_init_1 : decode cX4_init 1 = .ok (.invokespecial 1, 3) := dk_183 0 1 (dk_at dksX4_init_0 1 rfl rfl)
theorem dX4_init_4 : decode cX4_init 4 = .ok (.aload_n 0, 1) := dk_42 (dk_at dksX4_init_0 4 rfl rfl)
theorem dX4_init_5 : decode cX4_init 5 = .ok (.sipush 2232, 3) := dk_17 8 184 (dk_at dksX4_init_0 5 rfl rfl)
theorem dX4_init_8 : decode cX4_init 8 = .ok (.newarray .int, 2) := dk_188_10 (dk_at dksX4_init_0 8 rfl rfl)
theorem dX4_init_10 : decode cX4_init 10 = .ok (.putfield 7, 3) := dk_181 0 7 (dk_at dksX4_init_0 10 rfl rfl)
theorem dX4_init_13 : decode cX4_init 13 = .ok (.aload_n 0, 1) := dk_42 (dk_at dksX4_init_0 13 rfl rfl)
theorem dX4_init_14 : decode cX4_init 14 = .ok (.iconst 4, 1) := dk_7 (dk_at dksX4_init_0 14 rfl rfl)
theorem dX4_init_15 : decode cX4_init 15 = .ok (.newarray .long, 2) := dk_188_11 (dk_at dksX4_init_0 15 rfl rfl)
theorem dX4_init_17 : decode cX4_init 17 = .ok (.putfield 13, 3) := dk_181 0 13 (dk_at dksX4_init_0 17 rfl rfl)
theorem dX4_init_20 : decode cX4_init 20 = .ok (.aload_n 0, 1) := dk_42 (dk_at dksX4_init_0 20 rfl rfl)
theorem dX4_init_21 : decode cX4_init 21 = .ok (.bipush 12, 2) := dk_16 12 (dk_at dksX4_init_0 21 rfl rfl)
theorem dX4_init_23 : decode cX4_init 23 = .ok (.newarray .int, 2) := dk_188_10 (dk_at dksX4_init_1 0 rfl rfl)
theorem dX4_init_25 : decode cX4_init 25 = .ok (.putfield 17, 3) := dk_181 0 17 (dk_at dksX4_init_1 2 rfl rfl)
theorem dX4_init_28 : decode cX4_init 28 = .ok (.aload_n 0, 1) := dk_42 (dk_at dksX4_init_1 5 rfl rfl)
theorem dX4_init_29 : decode cX4_init 29 = .ok (.bipush 12, 2) := dk_16 12 (dk_at dksX4_init_1 6 rfl rfl)
theorem dX4_init_31 : decode cX4_init 31 = .ok (.newarray .int, 2) := dk_188_10 (dk_at dksX4_init_1 8 rfl rfl)
theorem dX4_init_33 : decode cX4_init 33 = .ok (.putfield 20, 3) := dk_181 0 20 (dk_at dksX4_init_1 10 rfl rfl)
theorem dX4_init_36 : decode cX4_init 36 = .ok (.aload_n 0, 1) := dk_42 (dk_at dksX4_init_1 13 rfl rfl)
theorem dX4_init_37 : decode cX4_init 37 = .ok (.sipush 600, 3) := dk_17 2 88 (dk_at dksX4_init_1 14 rfl rfl)
theorem dX4_init_40 : decode cX4_init 40 = .ok (.newarray .byte, 2) := dk_188_8 (dk_at dksX4_init_1 17 rfl rfl)
theorem dX4_init_42 : decode cX4_init 42 = .ok (.putfield 23, 3) := dk_181 0 23 (dk_at dksX4_init_1 19 rfl rfl)
theorem dX4_init_45 : decode cX4_init 45 = .ok (.aload_n 0, 1) := dk_42 (dk_at dksX4_init_1 22 rfl rfl)
theorem dX4_init_46 : decode cX4_init 46 = .ok (.bipush 120, 2) := dk_16 120 (dk_at dksX4_init_2 0 rfl rfl)
theorem dX4_init_48 : decode cX4_init 48 = .ok (.newarray .char, 2) := dk_188_5 (dk_at dksX4_init_2 2 rfl rfl)
theorem dX4_init_50 : decode cX4_init 50 = .ok (.putfield 27, 3) := dk_181 0 27 (dk_at dksX4_init_2 4 rfl rfl)
theorem dX4_init_53 : decode cX4_init 53 = .ok (.aload_n 0, 1) := dk_42 (dk_at dksX4_init_2 7 rfl rfl)
theorem dX4_init_54 : decode cX4_init 54 = .ok (.iconst 4, 1) := dk_7 (dk_at dksX4_init_2 8 rfl rfl)
theorem dX4_init_55 : decode cX4_init 55 = .ok (.newarray .long, 2) := dk_188_11 (dk_at dksX4_init_2 9 rfl rfl)
theorem dX4_init_57 : decode cX4_init 57 = .ok (.putfield 31, 3) := dk_181 0 31 (dk_at dksX4_init_2 11 rfl rfl)
theorem dX4_init_60 : decode cX4_init 60 = .ok (.aload_n 0, 1) := dk_42 (dk_at dksX4_init_2 14 rfl rfl)
theorem dX4_init_61 : decode cX4_init 61 = .ok (.bipush 12, 2) := dk_16 12 (dk_at dksX4_init_2 15 rfl rfl)
theorem dX4_init_63 : decode cX4_init 63 = .ok (.newarray .int, 2) := dk_188_10 (dk_at dksX4_init_2 17 rfl rfl)
theorem dX4_init_65 : decode cX4_init 65 = .ok (.putfield 34, 3) := dk_181 0 34 (dk_at dksX4_init_2 19 rfl rfl)
theorem dX4_init_68 : decode cX4_init 68 = .ok (.aload_n 0, 1) := dk_42 (dk_at dksX4_init_2 22 rfl rfl)
theorem dX4_init_69 : decode cX4_init 69 = .ok (.bipush 12, 2) := dk_16 12 (dk_at dksX4_init_3 0 rfl rfl)
theorem dX4_init_71 : decode cX4_init 71 = .ok (.newarray .int, 2) := dk_188_10 (dk_at dksX4_init_3 2 rfl rfl)
theorem dX4_init_73 : decode cX4_init 73 = .ok (.putfield 37, 3) := dk_181 0 37 (dk_at dksX4_init_3 4 rfl rfl)
theorem dX4_init_76 : decode cX4_init 76 = .ok (.aload_n 0, 1) := dk_42 (dk_at dksX4_init_3 7 rfl rfl)
theorem dX4_init_77 : decode cX4_init 77 = .ok (.bipush 20, 2) := dk_16 20 (dk_at dksX4_init_3 8 rfl rfl)
theorem dX4_init_79 : decode cX4_init 79 = .ok (.newarray .int, 2) := dk_188_10 (dk_at dksX4_init_3 10 rfl rfl)
theorem dX4_init_81 : decode cX4_init 81 = .ok (.putfield 40, 3) := dk_181 0 40 (dk_at dksX4_init_3 12 rfl rfl)
theorem dX4_init_84 : decode cX4_init 84 = .ok (.aload_n 0, 1) := dk_42 (dk_at dksX4_init_3 15 rfl rfl)
theorem dX4_init_85 : decode cX4_init 85 = .ok (.bipush 20, 2) := dk_16 20 (dk_at dksX4_init_3 16 rfl rfl)
theorem dX4_init_87 : decode cX4_init 87 = .ok (.newarray .int, 2) := dk_188_10 (dk_at dksX4_init_3 18 rfl rfl)
theorem dX4_init_89 : decode cX4_init 89 = .ok (.putfield 43, 3) := dk_181 0 43 (dk_at dksX4_init_3 20 rfl rfl)
theorem dX4_init_92 : decode cX4_init 92 = .ok (.aload_n 0, 1) := dk_42 (dk_at dksX4_init_3 23 rfl rfl)
theorem dX4_init_93 : decode cX4_init 93 = .ok (.bipush 20, 2) := dk_16 20 (dk_at dksX4_init_4 0 rfl rfl)
theorem dX4_init_95 : decode cX4_init 95 = .ok (.newarray .boolean, 2) := dk_188_4 (dk_at dksX4_init_4 2 rfl rfl)
theorem dX4_init_97 : decode cX4_init 97 = .ok (.putfield 46, 3) := dk_181 0 46 (dk_at dksX4_init_4 4 rfl rfl)
theorem dX4_init_100 : decode cX4_init 100 = .ok (.aload_n 0, 1) := dk_42 (dk_at dksX4_init_4 7 rfl rfl)
theorem dX4_init_101 : decode cX4_init 101 = .ok (.sipush 4000, 3) := dk_17 15 160 (dk_at dksX4_init_4 8 rfl rfl)
theorem dX4_init_104 : decode cX4_init 104 = .ok (.newarray .int, 2) := dk_188_10 (dk_at dksX4_init_4 11 rfl rfl)
theorem dX4_init_106 : decode cX4_init 106 = .ok (.putfield 50, 3) := dk_181 0 50 (dk_at dksX4_init_4 13 rfl rfl)
theorem dX4_init_109 : decode cX4_init 109 = .ok (.aload_n 0, 1) := dk_42 (dk_at dksX4_init_4 16 rfl rfl)
theorem dX4_init_110 : decode cX4_init 110 = .ok (.iconst (-1), 1) := dk_2 (dk_at dksX4_init_4 17 rfl rfl)
theorem dX4_init_111 : decode cX4_init 111 = .ok (.putfield 53, 3) := dk_181 0 53 (dk_at dksX4_init_4 18 rfl rfl)
theorem dX4_init_114 : decode cX4_init 114 = .ok (.aload_n 0, 1) := dk_42 (dk_at dksX4_init_4 21 rfl rfl)
theorem dX4_init_115 : decode cX4_init 115 = .ok (.invokevirtual 57, 3) := dk_182 0 57 (dk_at dksX4_init_5 0 rfl rfl)
theorem dX4_init_118 : decode cX4_init 118 = .ok (.aload_n 0, 1) := dk_42 (dk_at dksX4_init_5 3 rfl rfl)
theorem dX4_init_119 : decode cX4_init 119 = .ok (.invokevirtual 60, 3) := dk_182 0 60 (dk_at dksX4_init_5 4 rfl rfl)
theorem dX4_init_122 : decode cX4_init 122 = .ok (.return_, 1) := dk_177 (dk_at dksX4_init_5 7 rfl rfl)
abbrev cX4_beginReading : ByteArray := prog_17_method_34_code
def yX4_beginReading : MethodName := ⟨RX4, "beginReading", "()V"⟩
def dkwX4_beginReading_1 : List UInt8 := [17, 0, 186, 27, 96, 3, 79, 132, 1, 1, 167, 255, 235, 177]
abbrev dktX4_beginReading_1 : List UInt8 := dkwX4_beginReading_1 ++ []
def dkwX4_beginReading_0 : List UInt8 := [42, 3, 181, 0, 163, 42, 3, 181, 0, 166, 3, 60, 27, 17, 0, 186, 162, 0, 20, 42, 180, 0, 7]
abbrev dktX4_beginReading_0 : List UInt8 := dkwX4_beginReading_0 ++ dktX4_beginReading_1
theorem dksX4_beginReading_0 : cX4_beginReading.data.toList.drop 0 = dktX4_beginReading_0 := by decide +kernel
theorem dksX4_beginReading_1 : cX4_beginReading.data.toList.drop 23 = dktX4_beginReading_1 := dk_seg dksX4_beginReading_0 23 rfl rfl
theorem dX4_beginReading_0 : decode cX4_beginReading 0 = .ok (.aload_n 0, 1) := dk_42 (dk_at dksX4_beginReading_0 0 rfl rfl)
theorem dX4_beginReading_1 : decode cX4_beginReading 1 = .ok (.iconst 0, 1) := dk_3 (dk_at dksX4_beginReading_0 1 rfl rfl)
theorem dX4_beginReading_2 : decode cX4_beginReading 2 = .ok (.putfield 163, 3) := dk_181 0 163 (dk_at dksX4_beginReading_0 2 rfl rfl)
theorem dX4_beginReading_5 : decode cX4_beginReading 5 = .ok (.aload_n 0, 1) := dk_42 (dk_at dksX4_beginReading_0 5 rfl rfl)
theorem dX4_beginReading_6 : decode cX4_beginReading 6 = .ok (.iconst 0, 1) := dk_3 (dk_at dksX4_beginReading_0 6 rfl rfl)
theorem dX4_beginReading_7 : decode cX4_beginReading 7 = .ok (.putfield 166, 3) := dk_181 0 166 (dk_at dksX4_beginReading_0 7 rfl rfl)
theorem dX4_beginReading_10 : decode cX4_beginReading 10 = .ok (.iconst 0, 1) := dk_3 (dk_at dksX4_beginReading_0 10 rfl rfl)
theorem dX4_beginReading_11 : decode cX4_beginReading 11 = .ok (.istore_n 1, 1) := dk_60 (dk_at dksX4_beginReading_0 11 rfl rfl)
theorem dX4_beginReading_12 : decode cX4_beginReading 12 = .ok (.iload_n 1, 1) := dk_27 (dk_at dksX4_beginReading_0 12 rfl rfl)
theorem dX4_beginReading_13 : decode cX4_beginReading 13 = .ok (.sipush 186, 3) := dk_17 0 186 (dk_at dksX4_beginReading_0 13 rfl rfl)
theorem dX4_beginReading_16 : decode cX4_beginReading 16 = .ok (.if_icmp .ge 20, 3) := dk_162 0 20 (dk_at dksX4_beginReading_0 16 rfl rfl)
theorem dX4_beginReading_19 : decode cX4_beginReading 19 = .ok (.aload_n 0, 1) := dk_42 (dk_at dksX4_beginReading_0 19 rfl rfl)
theorem dX4_beginReading_20 : decode cX4_beginReading 20 = .ok (.getfield 7, 3) := dk_180 0 7 (dk_at dksX4_beginReading_0 20 rfl rfl)
theorem dX4_beginReading_23 : decode cX4_beginReading 23 = .ok (.sipush 186, 3) := dk_17 0 186 (dk_at dksX4_beginReading_1 0 rfl rfl)
theorem dX4_beginReading_26 : decode cX4_beginReading 26 = .ok (.iload_n 1, 1) := dk_27 (dk_at dksX4_beginReading_1 3 rfl rfl)
theorem dX4_beginReading_27 : decode cX4_beginReading 27 = .ok (.iadd, 1) := dk_96 (dk_at dksX4_beginReading_1 4 rfl rfl)
theorem dX4_beginReading_28 : decode cX4_beginReading 28 = .ok (.iconst 0, 1) := dk_3 (dk_at dksX4_beginReading_1 5 rfl rfl)
theorem dX4_beginReading_29 : decode cX4_beginReading 29 = .ok (.iastore, 1) := dk_79 (dk_at dksX4_beginReading_1 6 rfl rfl)
theorem dX4_beginReading_30 : decode cX4_beginReading 30 = .ok (.iinc 1 1, 3) := dk_132 1 1 (dk_at dksX4_beginReading_1 7 rfl rfl)
theorem dX4_beginReading_33 : decode cX4_beginReading 33 = .ok (.goto (-21), 3) := dk_167 255 235 (dk_at dksX4_beginReading_1 10 rfl rfl)
theorem dX4_beginReading_36 : decode cX4_beginReading 36 = .ok (.return_, 1) := dk_177 (dk_at dksX4_beginReading_1 13 rfl rfl)
abbrev cX4_keepReading : ByteArray := prog_17_method_35_code
def yX4_keepReading : MethodName := ⟨RX4, "keepReading", "()V"⟩
def dkwX4_keepReading_4 : List UInt8 := [3, 181, 0, 175, 177]
abbrev dktX4_keepReading_4 : List UInt8 := dkwX4_keepReading_4 ++ []
def dkwX4_keepReading_3 : List UInt8 := [180, 0, 37, 27, 46, 79, 132, 1, 1, 167, 255, 223, 42, 4, 3, 182, 0, 169, 42, 3, 181, 0, 172, 42]
abbrev dktX4_keepReading_3 : List UInt8 := dkwX4_keepReading_3 ++ dktX4_keepReading_4
def dkwX4_keepReading_2 : List UInt8 := [16, 12, 162, 0, 33, 42, 180, 0, 17, 27, 42, 180, 0, 34, 27, 46, 79, 42, 180, 0, 20, 27, 42]
abbrev dktX4_keepReading_2 : List UInt8 := dkwX4_keepReading_2 ++ dktX4_keepReading_3
def dkwX4_keepReading_1 : List UInt8 := [180, 0, 31, 27, 47, 80, 132, 1, 1, 167, 255, 233, 42, 42, 180, 0, 166, 181, 0, 92, 3, 60, 27]
abbrev dktX4_keepReading_1 : List UInt8 := dkwX4_keepReading_1 ++ dktX4_keepReading_2
def dkwX4_keepReading_0 : List UInt8 := [42, 42, 180, 0, 163, 181, 0, 81, 3, 60, 27, 42, 180, 0, 81, 162, 0, 21, 42, 180, 0, 13, 27, 42]
abbrev dktX4_keepReading_0 : List UInt8 := dkwX4_keepReading_0 ++ dktX4_keepReading_1
theorem dksX4_keepReading_0 : cX4_keepReading.data.toList.drop 0 = dktX4_keepReading_0 := by decide +kernel
theorem dksX4_keepReading_1 : cX4_keepReading.data.toList.drop 24 = dktX4_keepReading_1 := dk_seg dksX4_keepReading_0 24 rfl rfl
theorem dksX4_keepReading_2 : cX4_keepReading.data.toList.drop 47 = dktX4_keepReading_2 := dk_seg dksX4_keepReading_1 23 rfl rfl
theorem dksX4_keepReading_3 : cX4_keepReading.data.toList.drop 70 = dktX4_keepReading_3 := dk_seg dksX4_keepReading_2 23 rfl rfl
theorem dksX4_keepReading_4 : cX4_keepReading.data.toList.drop 94 = dktX4_keepReading_4 := dk_seg dksX4_keepReading_3 24 rfl rfl
theorem dX4_keepReading_0 : decode cX4_keepReading 0 = .ok (.aload_n 0, 1) := dk_42 (dk_at dksX4_keepReading_0 0 rfl rfl)
theorem dX4_keepReading_1 : decode cX4_keepReading 1 = .ok (.aload_n 0, 1) := dk_42 (dk_at dksX4_keepReading_0 1 rfl rfl)
theorem dX4_keepReading_2 : decode cX4_keepReading 2 = .ok (.getfield 163, 3) := dk_180 0 163 (dk_at dksX4_keepReading_0 2 rfl rfl)
theorem dX4_keepReading_5 : decode cX4_keepReading 5 = .ok (.putfield 81, 3) := dk_181 0 81 (dk_at dksX4_keepReading_0 5 rfl rfl)
theorem dX4_keepReading_8 : decode cX4_keepReading 8 = .ok (.iconst 0, 1) := dk_3 (dk_at dksX4_keepReading_0 8 rfl rfl)
theorem dX4_keepReading_9 : decode cX4_keepReading 9 = .ok (.istore_n 1, 1) := dk_60 (dk_at dksX4_keepReading_0 9 rfl rfl)
theorem dX4_keepReading_10 : decode cX4_keepReading 10 = .ok (.iload_n 1, 1) := dk_27 (dk_at dksX4_keepReading_0 10 rfl rfl)
theorem dX4_keepReading_11 : decode cX4_keepReading 11 = .ok (.aload_n 0, 1) := dk_42 (dk_at dksX4_keepReading_0 11 rfl rfl)
theorem dX4_keepReading_12 : decode cX4_keepReading 12 = .ok (.getfield 81, 3) := dk_180 0 81 (dk_at dksX4_keepReading_0 12 rfl rfl)
theorem dX4_keepReading_15 : decode cX4_keepReading 15 = .ok (.if_icmp .ge 21, 3) := dk_162 0 21 (dk_at dksX4_keepReading_0 15 rfl rfl)
theorem dX4_keepReading_18 : decode cX4_keepReading 18 = .ok (.aload_n 0, 1) := dk_42 (dk_at dksX4_keepReading_0 18 rfl rfl)
theorem dX4_keepReading_19 : decode cX4_keepReading 19 = .ok (.getfield 13, 3) := dk_180 0 13 (dk_at dksX4_keepReading_0 19 rfl rfl)
theorem dX4_keepReading_22 : decode cX4_keepReading 22 = .ok (.iload_n 1, 1) := dk_27 (dk_at dksX4_keepReading_0 22 rfl rfl)
theorem dX4_keepReading_23 : decode cX4_keepReading 23 = .ok (.aload_n 0, 1) := dk_42 (dk_at dksX4_keepReading_0 23 rfl rfl)
theorem dX4_keepReading_24 : decode cX4_keepReading 24 = .ok (.getfield 31, 3) := dk_180 0 31 (dk_at dksX4_keepReading_1 0 rfl rfl)
theorem dX4_keepReading_27 : decode cX4_keepReading 27 = .ok (.iload_n 1, 1) := dk_27 (dk_at dksX4_keepReading_1 3 rfl rfl)
theorem dX4_keepReading_28 : decode cX4_keepReading 28 = .ok (.laload, 1) := dk_47 (dk_at dksX4_keepReading_1 4 rfl rfl)
theorem dX4_keepReading_29 : decode cX4_keepReading 29 = .ok (.lastore, 1) := dk_80 (dk_at dksX4_keepReading_1 5 rfl rfl)
theorem dX4_keepReading_30 : decode cX4_keepReading 30 = .ok (.iinc 1 1, 3) := dk_132 1 1 (dk_at dksX4_keepReading_1 6 rfl rfl)
theorem dX4_keepReading_33 : decode cX4_keepReading 33 = .ok (.goto (-23), 3) := dk_167 255 233 (dk_at dksX4_keepReading_1 9 rfl rfl)
theorem dX4_keepReading_36 : decode cX4_keepReading 36 = .ok (.aload_n 0, 1) := dk_42 (dk_at dksX4_keepReading_1 12 rfl rfl)
theorem dX4_keepReading_37 : decode cX4_keepReading 37 = .ok (.aload_n 0, 1) := dk_42 (dk_at dksX4_keepReading_1 13 rfl rfl)
theorem dX4_keepReading_38 : decode cX4_keepReading 38 = .ok (.getfield 166, 3) := dk_180 0 166 (dk_at dksX4_keepReading_1 14 rfl rfl)
theorem dX4_keepReading_41 : decode cX4_keepReading 41 = .ok (.putfield 92, 3) := dk_181 0 92 (dk_at dksX4_keepReading_1 17 rfl rfl)
theorem dX4_keepReading_44 : decode cX4_keepReading 44 = .ok (.iconst 0, 1) := dk_3 (dk_at dksX4_keepReading_1 20 rfl rfl)
theorem dX4_keepReading_45 : decode cX4_keepReading 45 = .ok (.istore_n 1, 1) := dk_60 (dk_at dksX4_keepReading_1 21 rfl rfl)
theorem dX4_keepReading_46 : decode cX4_keepReading 46 = .ok (.iload_n 1, 1) := dk_27 (dk_at dksX4_keepReading_1 22 rfl rfl)
theorem dX4_keepReading_47 : decode cX4_keepReading 47 = .ok (.bipush 12, 2) := dk_16 12 (dk_at dksX4_keepReading_2 0 rfl rfl)
theorem dX4_keepReading_49 : decode cX4_keepReading 49 = .ok (.if_icmp .ge 33, 3) := dk_162 0 33 (dk_at dksX4_keepReading_2 2 rfl rfl)
theorem dX4_keepReading_52 : decode cX4_keepReading 52 = .ok (.aload_n 0, 1) := dk_42 (dk_at dksX4_keepReading_2 5 rfl rfl)
theorem dX4_keepReading_53 : decode cX4_keepReading 53 = .ok (.getfield 17, 3) := dk_180 0 17 (dk_at dksX4_keepReading_2 6 rfl rfl)
theorem dX4_keepReading_56 : decode cX4_keepReading 56 = .ok (.iload_n 1, 1) := dk_27 (dk_at dksX4_keepReading_2 9 rfl rfl)
theorem dX4_keepReading_57 : decode cX4_keepReading 57 = .ok (.aload_n 0, 1) := dk_42 (dk_at dksX4_keepReading_2 10 rfl rfl)
theorem dX4_keepReading_58 : decode cX4_keepReading 58 = .ok (.getfield 34, 3) := dk_180 0 34 (dk_at dksX4_keepReading_2 11 rfl rfl)
theorem dX4_keepReading_61 : decode cX4_keepReading 61 = .ok (.iload_n 1, 1) := dk_27 (dk_at dksX4_keepReading_2 14 rfl rfl)
theorem dX4_keepReading_62 : decode cX4_keepReading 62 = .ok (.iaload, 1) := dk_46 (dk_at dksX4_keepReading_2 15 rfl rfl)
theorem dX4_keepReading_63 : decode cX4_keepReading 63 = .ok (.iastore, 1) := dk_79 (dk_at dksX4_keepReading_2 16 rfl rfl)
theorem dX4_keepReading_64 : decode cX4_keepReading 64 = .ok (.aload_n 0, 1) := dk_42 (dk_at dksX4_keepReading_2 17 rfl rfl)
theorem dX4_keepReading_65 : decode cX4_keepReading 65 = .ok (.getfield 20, 3) := dk_180 0 20 (dk_at dksX4_keepReading_2 18 rfl rfl)
theorem dX4_keepReading_68 : decode cX4_keepReading 68 = .ok (.iload_n 1, 1) := dk_27 (dk_at dksX4_keepReading_2 21 rfl rfl)
theorem dX4_keepReading_69 : decode cX4_keepReading 69 = .ok (.aload_n 0, 1) := dk_42 (dk_at dksX4_keepReading_2 22 rfl rfl)
theorem dX4_keepReading_70 : decode cX4_keepReading 70 = .ok (.getfield 37, 3) := dk_180 0 37 (dk_at dksX4_keepReading_3 0 rfl rfl)
theorem dX4_keepReading_73 : decode cX4_keepReading 73 = .ok (.iload_n 1, 1) := dk_27 (dk_at dksX4_keepReading_3 3 rfl rfl)
theorem dX4_keepReading_74 : decode cX4_keepReading 74 = .ok (.iaload, 1) := dk_46 (dk_at dksX4_keepReading_3 4 rfl rfl)
theorem dX4_keepReading_75 : decode cX4_keepReading 75 = .ok (.iastore, 1) := dk_79 (dk_at dksX4_keepReading_3 5 rfl rfl)
theorem dX4_keepReading_76 : decode cX4_keepReading 76 = .ok (.iinc 1 1, 3) := dk_132 1 1 (dk_at dksX4_keepReading_3 6 rfl rfl)
theorem dX4_keepReading_79 : decode cX4_keepReading 79 = .ok (.goto (-33), 3) := dk_167 255 223 (dk_at dksX4_keepReading_3 9 rfl rfl)
theorem dX4_keepReading_82 : decode cX4_keepReading 82 = .ok (.aload_n 0, 1) := dk_42 (dk_at dksX4_keepReading_3 12 rfl rfl)
theorem dX4_keepReading_83 : decode cX4_keepReading 83 = .ok (.iconst 1, 1) := dk_4 (dk_at dksX4_keepReading_3 13 rfl rfl)
theorem dX4_keepReading_84 : decode cX4_keepReading 84 = .ok (.iconst 0, 1) := dk_3 (dk_at dksX4_keepReading_3 14 rfl rfl)
theorem dX4_keepReading_85 : decode cX4_keepReading 85 = .ok (.invokevirtual 169, 3) := dk_182 0 169 (dk_at dksX4_keepReading_3 15 rfl rfl)
theorem dX4_keepReading_88 : decode cX4_keepReading 88 = .ok (.aload_n 0, 1) := dk_42 (dk_at dksX4_keepReading_3 18 rfl rfl)
theorem dX4_keepReading_89 : decode cX4_keepReading 89 = .ok (.iconst 0, 1) := dk_3 (dk_at dksX4_keepReading_3 19 rfl rfl)
theorem dX4_keepReading_90 : decode cX4_keepReading 90 = .ok (.putfield 172, 3) := dk_181 0 172 (dk_at dksX4_keepReading_3 20 rfl rfl)
theorem dX4_keepReading_93 : decode cX4_keepReading 93 = .ok (.aload_n 0, 1) := dk_42 (dk_at dksX4_keepReading_3 23 rfl rfl)
theorem dX4_keepReading_94 : decode cX4_keepReading 94 = .ok (.iconst 0, 1) := dk_3 (dk_at dksX4_keepReading_4 0 rfl rfl)
theorem dX4_keepReading_95 : decode cX4_keepReading 95 = .ok (.putfield 175, 3) := dk_181 0 175 (dk_at dksX4_keepReading_4 1 rfl rfl)
theorem dX4_keepReading_98 : decode cX4_keepReading 98 = .ok (.return_, 1) := dk_177 (dk_at dksX4_keepReading_4 4 rfl rfl)
abbrev cX4_copyRow : ByteArray := prog_17_method_105_code
def yX4_copyRow : MethodName := ⟨RX4, "copyRow", "(II)V"⟩
def dkwX4_copyRow_1 : List UInt8 := [17, 0, 186, 27, 104, 29, 96, 46, 79, 132, 3, 1, 167, 255, 222, 177]
abbrev dktX4_copyRow_1 : List UInt8 := dkwX4_copyRow_1 ++ []
def dkwX4_copyRow_0 : List UInt8 := [3, 62, 29, 17, 0, 186, 162, 0, 33, 42, 180, 0, 7, 17, 0, 186, 28, 104, 29, 96, 42, 180, 0, 7]
abbrev dktX4_copyRow_0 : List UInt8 := dkwX4_copyRow_0 ++ dktX4_copyRow_1
theorem dksX4_copyRow_0 : cX4_copyRow.data.toList.drop 0 = dktX4_copyRow_0 := by decide +kernel
theorem dksX4_copyRow_1 : cX4_copyRow.data.toList.drop 24 = dktX4_copyRow_1 := dk_seg dksX4_copyRow_0 24 rfl rfl
theorem dX4_copyRow_0 : decode cX4_copyRow 0 = .ok (.iconst 0, 1) := dk_3 (dk_at dksX4_copyRow_0 0 rfl rfl)
theorem dX4_copyRow_1 : decode cX4_copyRow 1 = .ok (.istore_n 3, 1) := dk_62 (dk_at dksX4_copyRow_0 1 rfl rfl)
theorem dX4_copyRow_2 : decode cX4_copyRow 2 = .ok (.iload_n 3, 1) := dk_29 (dk_at dksX4_copyRow_0 2 rfl rfl)
theorem dX4_copyRow_3 : decode cX4_copyRow 3 = .ok (.sipush 186, 3) := dk_17 0 186 (dk_at dksX4_copyRow_0 3 rfl rfl)
theorem dX4_copyRow_6 : decode cX4_copyRow 6 = .ok (.if_icmp .ge 33, 3) := dk_162 0 33 (dk_at dksX4_copyRow_0 6 rfl rfl)
theorem dX4_copyRow_9 : decode cX4_copyRow 9 = .ok (.aload_n 0, 1) := dk_42 (dk_at dksX4_copyRow_0 9 rfl rfl)
theorem dX4_copyRow_10 : decode cX4_copyRow 10 = .ok (.getfield 7, 3) := dk_180 0 7 (dk_at dksX4_copyRow_0 10 rfl rfl)
theorem dX4_copyRow_13 : decode cX4_copyRow 13 = .ok (.sipush 186, 3) := dk_17 0 186 (dk_at dksX4_copyRow_0 13 rfl rfl)
theorem dX4_copyRow_16 : decode cX4_copyRow 16 = .ok (.iload_n 2, 1) := dk_28 (dk_at dksX4_copyRow_0 16 rfl rfl)
theorem dX4_copyRow_17 : decode cX4_copyRow 17 = .ok (.imul, 1) := dk_104 (dk_at dksX4_copyRow_0 17 rfl rfl)
theorem dX4_copyRow_18 : decode cX4_copyRow 18 = .ok (.iload_n 3, 1) := dk_29 (dk_at dksX4_copyRow_0 18 rfl rfl)
theorem dX4_copyRow_19 : decode cX4_copyRow 19 = .ok (.iadd, 1) := dk_96 (dk_at dksX4_copyRow_0 19 rfl rfl)
theorem dX4_copyRow_20 : decode cX4_copyRow 20 = .ok (.aload_n 0, 1) := dk_42 (dk_at dksX4_copyRow_0 20 rfl rfl)
theorem dX4_copyRow_21 : decode cX4_copyRow 21 = .ok (.getfield 7, 3) := dk_180 0 7 (dk_at dksX4_copyRow_0 21 rfl rfl)
theorem dX4_copyRow_24 : decode cX4_copyRow 24 = .ok (.sipush 186, 3) := dk_17 0 186 (dk_at dksX4_copyRow_1 0 rfl rfl)
theorem dX4_copyRow_27 : decode cX4_copyRow 27 = .ok (.iload_n 1, 1) := dk_27 (dk_at dksX4_copyRow_1 3 rfl rfl)
theorem dX4_copyRow_28 : decode cX4_copyRow 28 = .ok (.imul, 1) := dk_104 (dk_at dksX4_copyRow_1 4 rfl rfl)
theorem dX4_copyRow_29 : decode cX4_copyRow 29 = .ok (.iload_n 3, 1) := dk_29 (dk_at dksX4_copyRow_1 5 rfl rfl)
theorem dX4_copyRow_30 : decode cX4_copyRow 30 = .ok (.iadd, 1) := dk_96 (dk_at dksX4_copyRow_1 6 rfl rfl)
theorem dX4_copyRow_31 : decode cX4_copyRow 31 = .ok (.iaload, 1) := dk_46 (dk_at dksX4_copyRow_1 7 rfl rfl)
theorem dX4_copyRow_32 : decode cX4_copyRow 32 = .ok (.iastore, 1) := dk_79 (dk_at dksX4_copyRow_1 8 rfl rfl)
theorem dX4_copyRow_33 : decode cX4_copyRow 33 = .ok (.iinc 3 1, 3) := dk_132 3 1 (dk_at dksX4_copyRow_1 9 rfl rfl)
theorem dX4_copyRow_36 : decode cX4_copyRow 36 = .ok (.goto (-34), 3) := dk_167 255 222 (dk_at dksX4_copyRow_1 12 rfl rfl)
theorem dX4_copyRow_39 : decode cX4_copyRow 39 = .ok (.return_, 1) := dk_177 (dk_at dksX4_copyRow_1 15 rfl rfl)
abbrev cX4_thrown : ByteArray := prog_17_method_2_code
def yX4_thrown : MethodName := ⟨RX4, "thrown", "()I"⟩
theorem dX4_thrown_0 : decode cX4_thrown 0 = .ok (.aload_n 0, 1) := by decide +kernel
theorem dX4_thrown_1 : decode cX4_thrown 1 = .ok (.getfield 63, 3) := by decide +kernel
theorem dX4_thrown_4 : decode cX4_thrown 4 = .ok (.ireturn, 1) := by decide +kernel
abbrev cX4_append : ByteArray := prog_17_method_19_code
def yX4_append : MethodName := ⟨RX4, "append", "(IIIII)I"⟩
def dkwX4_append_2 : List UInt8 := [182, 0, 101, 42, 180, 0, 95, 172]
abbrev dktX4_append_2 : List UInt8 := dkwX4_append_2 ++ []
def dkwX4_append_1 : List UInt8 := [42, 27, 182, 0, 101, 42, 28, 182, 0, 101, 42, 29, 182, 0, 101, 42, 21, 4, 182, 0, 101, 42, 21, 5]
abbrev dktX4_append_1 : List UInt8 := dkwX4_append_1 ++ dktX4_append_2
def dkwX4_append_0 : List UInt8 := [42, 3, 181, 0, 63, 42, 180, 0, 95, 16, 20, 96, 17, 2, 88, 164, 0, 9, 42, 4, 182, 0, 98, 172]
abbrev dktX4_append_0 : List UInt8 := dkwX4_append_0 ++ dktX4_append_1
theorem dksX4_append_0 : cX4_append.data.toList.drop 0 = dktX4_append_0 := by decide +kernel
theorem dksX4_append_1 : cX4_append.data.toList.drop 24 = dktX4_append_1 := dk_seg dksX4_append_0 24 rfl rfl
theorem dksX4_append_2 : cX4_append.data.toList.drop 48 = dktX4_append_2 := dk_seg dksX4_append_1 24 rfl rfl
theorem dX4_append_0 : decode cX4_append 0 = .ok (.aload_n 0, 1) := dk_42 (dk_at dksX4_append_0 0 rfl rfl)
theorem dX4_append_1 : decode cX4_append 1 = .ok (.iconst 0, 1) := dk_3 (dk_at dksX4_append_0 1 rfl rfl)
theorem dX4_append_2 : decode cX4_append 2 = .ok (.putfield 63, 3) := dk_181 0 63 (dk_at dksX4_append_0 2 rfl rfl)
theorem dX4_append_5 : decode cX4_append 5 = .ok (.aload_n 0, 1) := dk_42 (dk_at dksX4_append_0 5 rfl rfl)
theorem dX4_append_6 : decode cX4_append 6 = .ok (.getfield 95, 3) := dk_180 0 95 (dk_at dksX4_append_0 6 rfl rfl)
theorem dX4_append_9 : decode cX4_append 9 = .ok (.bipush 20, 2) := dk_16 20 (dk_at dksX4_append_0 9 rfl rfl)
theorem dX4_append_11 : decode cX4_append 11 = .ok (.iadd, 1) := dk_96 (dk_at dksX4_append_0 11 rfl rfl)
theorem dX4_append_12 : decode cX4_append 12 = .ok (.sipush 600, 3) := dk_17 2 88 (dk_at dksX4_append_0 12 rfl rfl)
theorem dX4_append_15 : decode cX4_append 15 = .ok (.if_icmp .le 9, 3) := dk_164 0 9 (dk_at dksX4_append_0 15 rfl rfl)
theorem dX4_append_18 : decode cX4_append 18 = .ok (.aload_n 0, 1) := dk_42 (dk_at dksX4_append_0 18 rfl rfl)
theorem dX4_append_19 : decode cX4_append 19 = .ok (.iconst 1, 1) := dk_4 (dk_at dksX4_append_0 19 rfl rfl)
theorem dX4_append_20 : decode cX4_append 20 = .ok (.invokevirtual 98, 3) := dk_182 0 98 (dk_at dksX4_append_0 20 rfl rfl)
theorem dX4_append_23 : decode cX4_append 23 = .ok (.ireturn, 1) := dk_172 (dk_at dksX4_append_0 23 rfl rfl)
theorem dX4_append_24 : decode cX4_append 24 = .ok (.aload_n 0, 1) := dk_42 (dk_at dksX4_append_1 0 rfl rfl)
theorem dX4_append_25 : decode cX4_append 25 = .ok (.iload_n 1, 1) := dk_27 (dk_at dksX4_append_1 1 rfl rfl)
theorem dX4_append_26 : decode cX4_append 26 = .ok (.invokevirtual 101, 3) := dk_182 0 101 (dk_at dksX4_append_1 2 rfl rfl)
theorem dX4_append_29 : decode cX4_append 29 = .ok (.aload_n 0, 1) := dk_42 (dk_at dksX4_append_1 5 rfl rfl)
theorem dX4_append_30 : decode cX4_append 30 = .ok (.iload_n 2, 1) := dk_28 (dk_at dksX4_append_1 6 rfl rfl)
theorem dX4_append_31 : decode cX4_append 31 = .ok (.invokevirtual 101, 3) := dk_182 0 101 (dk_at dksX4_append_1 7 rfl rfl)
theorem dX4_append_34 : decode cX4_append 34 = .ok (.aload_n 0, 1) := dk_42 (dk_at dksX4_append_1 10 rfl rfl)
theorem dX4_append_35 : decode cX4_append 35 = .ok (.iload_n 3, 1) := dk_29 (dk_at dksX4_append_1 11 rfl rfl)
theorem dX4_append_36 : decode cX4_append 36 = .ok (.invokevirtual 101, 3) := dk_182 0 101 (dk_at dksX4_append_1 12 rfl rfl)
theorem dX4_append_39 : decode cX4_append 39 = .ok (.aload_n 0, 1) := dk_42 (dk_at dksX4_append_1 15 rfl rfl)
theorem dX4_append_40 : decode cX4_append 40 = .ok (.iload 4, 2) := dk_21 4 (dk_at dksX4_append_1 16 rfl rfl)
theorem dX4_append_42 : decode cX4_append 42 = .ok (.invokevirtual 101, 3) := dk_182 0 101 (dk_at dksX4_append_1 18 rfl rfl)
theorem dX4_append_45 : decode cX4_append 45 = .ok (.aload_n 0, 1) := dk_42 (dk_at dksX4_append_1 21 rfl rfl)
theorem dX4_append_46 : decode cX4_append 46 = .ok (.iload 5, 2) := dk_21 5 (dk_at dksX4_append_1 22 rfl rfl)
theorem dX4_append_48 : decode cX4_append 48 = .ok (.invokevirtual 101, 3) := dk_182 0 101 (dk_at dksX4_append_2 0 rfl rfl)
theorem dX4_append_51 : decode cX4_append 51 = .ok (.aload_n 0, 1) := dk_42 (dk_at dksX4_append_2 3 rfl rfl)
theorem dX4_append_52 : decode cX4_append 52 = .ok (.getfield 95, 3) := dk_180 0 95 (dk_at dksX4_append_2 4 rfl rfl)
theorem dX4_append_55 : decode cX4_append 55 = .ok (.ireturn, 1) := dk_172 (dk_at dksX4_append_2 7 rfl rfl)
abbrev cX4_fails : ByteArray := prog_17_method_3_code
def yX4_fails : MethodName := ⟨RX4, "fails", "(I)I"⟩
def dkwX4_fails_0 : List UInt8 := [42, 27, 181, 0, 63, 3, 172]
abbrev dktX4_fails_0 : List UInt8 := dkwX4_fails_0 ++ []
theorem dksX4_fails_0 : cX4_fails.data.toList.drop 0 = dktX4_fails_0 := by decide +kernel
theorem dX4_fails_0 : decode cX4_fails 0 = .ok (.aload_n 0, 1) := dk_42 (dk_at dksX4_fails_0 0 rfl rfl)
theorem dX4_fails_1 : decode cX4_fails 1 = .ok (.iload_n 1, 1) := dk_27 (dk_at dksX4_fails_0 1 rfl rfl)
theorem dX4_fails_2 : decode cX4_fails 2 = .ok (.putfield 63, 3) := dk_181 0 63 (dk_at dksX4_fails_0 2 rfl rfl)
theorem dX4_fails_5 : decode cX4_fails 5 = .ok (.iconst 0, 1) := dk_3 (dk_at dksX4_fails_0 5 rfl rfl)
theorem dX4_fails_6 : decode cX4_fails 6 = .ok (.ireturn, 1) := dk_172 (dk_at dksX4_fails_0 6 rfl rfl)
abbrev cX4_put : ByteArray := prog_17_method_18_code
def yX4_put : MethodName := ⟨RX4, "put", "(I)V"⟩
def dkwX4_put_2 : List UInt8 := [180, 0, 23, 42, 180, 0, 95, 6, 96, 27, 145, 84, 42, 89, 180, 0, 95, 7, 96, 181, 0, 95, 177]
abbrev dktX4_put_2 : List UInt8 := dkwX4_put_2 ++ []
def dkwX4_put_1 : List UInt8 := [27, 16, 16, 122, 145, 84, 42, 180, 0, 23, 42, 180, 0, 95, 5, 96, 27, 16, 8, 122, 145, 84, 42]
abbrev dktX4_put_1 : List UInt8 := dkwX4_put_1 ++ dktX4_put_2
def dkwX4_put_0 : List UInt8 := [42, 180, 0, 23, 42, 180, 0, 95, 27, 16, 24, 122, 145, 84, 42, 180, 0, 23, 42, 180, 0, 95, 4, 96]
abbrev dktX4_put_0 : List UInt8 := dkwX4_put_0 ++ dktX4_put_1
theorem dksX4_put_0 : cX4_put.data.toList.drop 0 = dktX4_put_0 := by decide +kernel
theorem dksX4_put_1 : cX4_put.data.toList.drop 24 = dktX4_put_1 := dk_seg dksX4_put_0 24 rfl rfl
theorem dksX4_put_2 : cX4_put.data.toList.drop 47 = dktX4_put_2 := dk_seg dksX4_put_1 23 rfl rfl
theorem dX4_put_0 : decode cX4_put 0 = .ok (.aload_n 0, 1) := dk_42 (dk_at dksX4_put_0 0 rfl rfl)
theorem dX4_put_1 : decode cX4_put 1 = .ok (.getfield 23, 3) := dk_180 0 23 (dk_at dksX4_put_0 1 rfl rfl)
theorem dX4_put_4 : decode cX4_put 4 = .ok (.aload_n 0, 1) := dk_42 (dk_at dksX4_put_0 4 rfl rfl)
theorem dX4_put_5 : decode cX4_put 5 = .ok (.getfield 95, 3) := dk_180 0 95 (dk_at dksX4_put_0 5 rfl rfl)
theorem dX4_put_8 : decode cX4_put 8 = .ok (.iload_n 1, 1) := dk_27 (dk_at dksX4_put_0 8 rfl rfl)
theorem dX4_put_9 : decode cX4_put 9 = .ok (.bipush 24, 2) := dk_16 24 (dk_at dksX4_put_0 9 rfl rfl)
theorem dX4_put_11 : decode cX4_put 11 = .ok (.ishr, 1) := dk_122 (dk_at dksX4_put_0 11 rfl rfl)
theorem dX4_put_12 : decode cX4_put 12 = .ok (.i2b, 1) := dk_145 (dk_at dksX4_put_0 12 rfl rfl)
theorem dX4_put_13 : decode cX4_put 13 = .ok (.bastore, 1) := dk_84 (dk_at dksX4_put_0 13 rfl rfl)
theorem dX4_put_14 : decode cX4_put 14 = .ok (.aload_n 0, 1) := dk_42 (dk_at dksX4_put_0 14 rfl rfl)
theorem dX4_put_15 : decode cX4_put 15 = .ok (.getfield 23, 3) := dk_180 0 23 (dk_at dksX4_put_0 15 rfl rfl)
theorem dX4_put_18 : decode cX4_put 18 = .ok (.aload_n 0, 1) := dk_42 (dk_at dksX4_put_0 18 rfl rfl)
theorem dX4_put_19 : decode cX4_put 19 = .ok (.getfield 95, 3) := dk_180 0 95 (dk_at dksX4_put_0 19 rfl rfl)
theorem dX4_put_22 : decode cX4_put 22 = .ok (.iconst 1, 1) := dk_4 (dk_at dksX4_put_0 22 rfl rfl)
theorem dX4_put_23 : decode cX4_put 23 = .ok (.iadd, 1) := dk_96 (dk_at dksX4_put_0 23 rfl rfl)
theorem dX4_put_24 : decode cX4_put 24 = .ok (.iload_n 1, 1) := dk_27 (dk_at dksX4_put_1 0 rfl rfl)
theorem dX4_put_25 : decode cX4_put 25 = .ok (.bipush 16, 2) := dk_16 16 (dk_at dksX4_put_1 1 rfl rfl)
theorem dX4_put_27 : decode cX4_put 27 = .ok (.ishr, 1) := dk_122 (dk_at dksX4_put_1 3 rfl rfl)
theorem dX4_put_28 : decode cX4_put 28 = .ok (.i2b, 1) := dk_145 (dk_at dksX4_put_1 4 rfl rfl)
theorem dX4_put_29 : decode cX4_put 29 = .ok (.bastore, 1) := dk_84 (dk_at dksX4_put_1 5 rfl rfl)
theorem dX4_put_30 : decode cX4_put 30 = .ok (.aload_n 0, 1) := dk_42 (dk_at dksX4_put_1 6 rfl rfl)
theorem dX4_put_31 : decode cX4_put 31 = .ok (.getfield 23, 3) := dk_180 0 23 (dk_at dksX4_put_1 7 rfl rfl)
theorem dX4_put_34 : decode cX4_put 34 = .ok (.aload_n 0, 1) := dk_42 (dk_at dksX4_put_1 10 rfl rfl)
theorem dX4_put_35 : decode cX4_put 35 = .ok (.getfield 95, 3) := dk_180 0 95 (dk_at dksX4_put_1 11 rfl rfl)
theorem dX4_put_38 : decode cX4_put 38 = .ok (.iconst 2, 1) := dk_5 (dk_at dksX4_put_1 14 rfl rfl)
theorem dX4_put_39 : decode cX4_put 39 = .ok (.iadd, 1) := dk_96 (dk_at dksX4_put_1 15 rfl rfl)
theorem dX4_put_40 : decode cX4_put 40 = .ok (.iload_n 1, 1) := dk_27 (dk_at dksX4_put_1 16 rfl rfl)
theorem dX4_put_41 : decode cX4_put 41 = .ok (.bipush 8, 2) := dk_16 8 (dk_at dksX4_put_1 17 rfl rfl)
theorem dX4_put_43 : decode cX4_put 43 = .ok (.ishr, 1) := dk_122 (dk_at dksX4_put_1 19 rfl rfl)
theorem dX4_put_44 : decode cX4_put 44 = .ok (.i2b, 1) := dk_145 (dk_at dksX4_put_1 20 rfl rfl)
theorem dX4_put_45 : decode cX4_put 45 = .ok (.bastore, 1) := dk_84 (dk_at dksX4_put_1 21 rfl rfl)
theorem dX4_put_46 : decode cX4_put 46 = .ok (.aload_n 0, 1) := dk_42 (dk_at dksX4_put_1 22 rfl rfl)
theorem dX4_put_47 : decode cX4_put 47 = .ok (.getfield 23, 3) := dk_180 0 23 (dk_at dksX4_put_2 0 rfl rfl)
theorem dX4_put_50 : decode cX4_put 50 = .ok (.aload_n 0, 1) := dk_42 (dk_at dksX4_put_2 3 rfl rfl)
theorem dX4_put_51 : decode cX4_put 51 = .ok (.getfield 95, 3) := dk_180 0 95 (dk_at dksX4_put_2 4 rfl rfl)
theorem dX4_put_54 : decode cX4_put 54 = .ok (.iconst 3, 1) := dk_6 (dk_at dksX4_put_2 7 rfl rfl)
theorem dX4_put_55 : decode cX4_put 55 = .ok (.iadd, 1) := dk_96 (dk_at dksX4_put_2 8 rfl rfl)
theorem dX4_put_56 : decode cX4_put 56 = .ok (.iload_n 1, 1) := dk_27 (dk_at dksX4_put_2 9 rfl rfl)
theorem dX4_put_57 : decode cX4_put 57 = .ok (.i2b, 1) := dk_145 (dk_at dksX4_put_2 10 rfl rfl)
theorem dX4_put_58 : decode cX4_put 58 = .ok (.bastore, 1) := dk_84 (dk_at dksX4_put_2 11 rfl rfl)
theorem dX4_put_59 : decode cX4_put 59 = .ok (.aload_n 0, 1) := dk_42 (dk_at dksX4_put_2 12 rfl rfl)
theorem dX4_put_60 : decode cX4_put 60 = .ok (.dup, 1) := dk_89 (dk_at dksX4_put_2 13 rfl rfl)
theorem dX4_put_61 : decode cX4_put 61 = .ok (.getfield 95, 3) := dk_180 0 95 (dk_at dksX4_put_2 14 rfl rfl)
theorem dX4_put_64 : decode cX4_put 64 = .ok (.iconst 4, 1) := dk_7 (dk_at dksX4_put_2 17 rfl rfl)
theorem dX4_put_65 : decode cX4_put 65 = .ok (.iadd, 1) := dk_96 (dk_at dksX4_put_2 18 rfl rfl)
theorem dX4_put_66 : decode cX4_put 66 = .ok (.putfield 95, 3) := dk_181 0 95 (dk_at dksX4_put_2 19 rfl rfl)
theorem dX4_put_69 : decode cX4_put 69 = .ok (.return_, 1) := dk_177 (dk_at dksX4_put_2 22 rfl rfl)
abbrev cX4_truncate : ByteArray := prog_17_method_20_code
def yX4_truncate : MethodName := ⟨RX4, "truncate", "(I)V"⟩
def dkwX4_truncate_1 : List UInt8 := [27, 181, 0, 95, 177]
abbrev dktX4_truncate_1 : List UInt8 := dkwX4_truncate_1 ++ []
def dkwX4_truncate_0 : List UInt8 := [42, 3, 181, 0, 63, 27, 3, 42, 180, 0, 95, 184, 0, 84, 154, 0, 9, 42, 4, 181, 0, 63, 177, 42]
abbrev dktX4_truncate_0 : List UInt8 := dkwX4_truncate_0 ++ dktX4_truncate_1
theorem dksX4_truncate_0 : cX4_truncate.data.toList.drop 0 = dktX4_truncate_0 := by decide +kernel
theorem dksX4_truncate_1 : cX4_truncate.data.toList.drop 24 = dktX4_truncate_1 := dk_seg dksX4_truncate_0 24 rfl rfl
theorem dX4_truncate_0 : decode cX4_truncate 0 = .ok (.aload_n 0, 1) := dk_42 (dk_at dksX4_truncate_0 0 rfl rfl)
theorem dX4_truncate_1 : decode cX4_truncate 1 = .ok (.iconst 0, 1) := dk_3 (dk_at dksX4_truncate_0 1 rfl rfl)
theorem dX4_truncate_2 : decode cX4_truncate 2 = .ok (.putfield 63, 3) := dk_181 0 63 (dk_at dksX4_truncate_0 2 rfl rfl)
theorem dX4_truncate_5 : decode cX4_truncate 5 = .ok (.iload_n 1, 1) := dk_27 (dk_at dksX4_truncate_0 5 rfl rfl)
theorem dX4_truncate_6 : decode cX4_truncate 6 = .ok (.iconst 0, 1) := dk_3 (dk_at dksX4_truncate_0 6 rfl rfl)
theorem dX4_truncate_7 : decode cX4_truncate 7 = .ok (.aload_n 0, 1) := dk_42 (dk_at dksX4_truncate_0 7 rfl rfl)
theorem dX4_truncate_8 : decode cX4_truncate 8 = .ok (.getfield 95, 3) := dk_180 0 95 (dk_at dksX4_truncate_0 8 rfl rfl)
theorem dX4_truncate_11 : decode cX4_truncate 11 = .ok (.invokestatic 84, 3) := dk_184 0 84 (dk_at dksX4_truncate_0 11 rfl rfl)
theorem dX4_truncate_14 : decode cX4_truncate 14 = .ok (.ifCond .ne 9, 3) := dk_154 0 9 (dk_at dksX4_truncate_0 14 rfl rfl)
theorem dX4_truncate_17 : decode cX4_truncate 17 = .ok (.aload_n 0, 1) := dk_42 (dk_at dksX4_truncate_0 17 rfl rfl)
theorem dX4_truncate_18 : decode cX4_truncate 18 = .ok (.iconst 1, 1) := dk_4 (dk_at dksX4_truncate_0 18 rfl rfl)
theorem dX4_truncate_19 : decode cX4_truncate 19 = .ok (.putfield 63, 3) := dk_181 0 63 (dk_at dksX4_truncate_0 19 rfl rfl)
theorem dX4_truncate_22 : decode cX4_truncate 22 = .ok (.return_, 1) := dk_177 (dk_at dksX4_truncate_0 22 rfl rfl)
theorem dX4_truncate_23 : decode cX4_truncate 23 = .ok (.aload_n 0, 1) := dk_42 (dk_at dksX4_truncate_0 23 rfl rfl)
theorem dX4_truncate_24 : decode cX4_truncate 24 = .ok (.iload_n 1, 1) := dk_27 (dk_at dksX4_truncate_1 0 rfl rfl)
theorem dX4_truncate_25 : decode cX4_truncate 25 = .ok (.putfield 95, 3) := dk_181 0 95 (dk_at dksX4_truncate_1 1 rfl rfl)
theorem dX4_truncate_28 : decode cX4_truncate 28 = .ok (.return_, 1) := dk_177 (dk_at dksX4_truncate_1 4 rfl rfl)
abbrev cX4_isIn : ByteArray := prog_17_method_4_code
def yX4_isIn : MethodName := ⟨RX4, "isIn", "(III)Z"⟩
def dkwX4_isIn_0 : List UInt8 := [26, 27, 161, 0, 12, 26, 28, 163, 0, 7, 4, 167, 0, 4, 3, 172]
abbrev dktX4_isIn_0 : List UInt8 := dkwX4_isIn_0 ++ []
theorem dksX4_isIn_0 : cX4_isIn.data.toList.drop 0 = dktX4_isIn_0 := by decide +kernel
theorem dX4_isIn_0 : decode cX4_isIn 0 = .ok (.iload_n 0, 1) := dk_26 (dk_at dksX4_isIn_0 0 rfl rfl)
theorem dX4_isIn_1 : decode cX4_isIn 1 = .ok (.iload_n 1, 1) := dk_27 (dk_at dksX4_isIn_0 1 rfl rfl)
theorem dX4_isIn_2 : decode cX4_isIn 2 = .ok (.if_icmp .lt 12, 3) := dk_161 0 12 (dk_at dksX4_isIn_0 2 rfl rfl)
theorem dX4_isIn_5 : decode cX4_isIn 5 = .ok (.iload_n 0, 1) := dk_26 (dk_at dksX4_isIn_0 5 rfl rfl)
theorem dX4_isIn_6 : decode cX4_isIn 6 = .ok (.iload_n 2, 1) := dk_28 (dk_at dksX4_isIn_0 6 rfl rfl)
theorem dX4_isIn_7 : decode cX4_isIn 7 = .ok (.if_icmp .gt 7, 3) := dk_163 0 7 (dk_at dksX4_isIn_0 7 rfl rfl)
theorem dX4_isIn_10 : decode cX4_isIn 10 = .ok (.iconst 1, 1) := dk_4 (dk_at dksX4_isIn_0 10 rfl rfl)
theorem dX4_isIn_11 : decode cX4_isIn 11 = .ok (.goto 4, 3) := dk_167 0 4 (dk_at dksX4_isIn_0 11 rfl rfl)
theorem dX4_isIn_14 : decode cX4_isIn 14 = .ok (.iconst 0, 1) := dk_3 (dk_at dksX4_isIn_0 14 rfl rfl)
theorem dX4_isIn_15 : decode cX4_isIn 15 = .ok (.ireturn, 1) := dk_172 (dk_at dksX4_isIn_0 15 rfl rfl)
abbrev cX4_load : ByteArray := prog_17_method_45_code
def yX4_load : MethodName := ⟨RX4, "load", "()I"⟩
def dkwX4_load_3 : List UInt8 := [154, 0, 9, 42, 4, 182, 0, 98, 172, 42, 182, 0, 60, 42, 182, 0, 88, 172]
abbrev dktX4_load_3 : List UInt8 := dkwX4_load_3 ++ []
def dkwX4_load_2 : List UInt8 := [153, 0, 10, 42, 182, 0, 217, 167, 255, 238, 42, 42, 180, 0, 147, 181, 0, 53, 42, 182, 0, 150]
abbrev dktX4_load_2 : List UInt8 := dkwX4_load_2 ++ dktX4_load_3
def dkwX4_load_1 : List UInt8 := [2, 181, 0, 147, 42, 182, 0, 57, 42, 182, 0, 154, 42, 182, 0, 150, 153, 0, 17, 42, 180, 0, 126]
abbrev dktX4_load_1 : List UInt8 := dkwX4_load_1 ++ dktX4_load_2
def dkwX4_load_0 : List UInt8 := [42, 3, 181, 0, 63, 42, 42, 180, 0, 95, 181, 0, 105, 42, 3, 181, 0, 95, 42, 3, 181, 0, 115, 42]
abbrev dktX4_load_0 : List UInt8 := dkwX4_load_0 ++ dktX4_load_1
theorem dksX4_load_0 : cX4_load.data.toList.drop 0 = dktX4_load_0 := by decide +kernel
theorem dksX4_load_1 : cX4_load.data.toList.drop 24 = dktX4_load_1 := dk_seg dksX4_load_0 24 rfl rfl
theorem dksX4_load_2 : cX4_load.data.toList.drop 47 = dktX4_load_2 := dk_seg dksX4_load_1 23 rfl rfl
theorem dksX4_load_3 : cX4_load.data.toList.drop 69 = dktX4_load_3 := dk_seg dksX4_load_2 22 rfl rfl
theorem dX4_load_0 : decode cX4_load 0 = .ok (.aload_n 0, 1) := dk_42 (dk_at dksX4_load_0 0 rfl rfl)
theorem dX4_load_1 : decode cX4_load 1 = .ok (.iconst 0, 1) := dk_3 (dk_at dksX4_load_0 1 rfl rfl)
theorem dX4_load_2 : decode cX4_load 2 = .ok (.putfield 63, 3) := dk_181 0 63 (dk_at dksX4_load_0 2 rfl rfl)
theorem dX4_load_5 : decode cX4_load 5 = .ok (.aload_n 0, 1) := dk_42 (dk_at dksX4_load_0 5 rfl rfl)
theorem dX4_load_6 : decode cX4_load 6 = .ok (.aload_n 0, 1) := dk_42 (dk_at dksX4_load_0 6 rfl rfl)
theorem dX4_load_7 : decode cX4_load 7 = .ok (.getfield 95, 3) := dk_180 0 95 (dk_at dksX4_load_0 7 rfl rfl)
theorem dX4_load_10 : decode cX4_load 10 = .ok (.putfield 105, 3) := dk_181 0 105 (dk_at dksX4_load_0 10 rfl rfl)
theorem dX4_load_13 : decode cX4_load 13 = .ok (.aload_n 0, 1) := dk_42 (dk_at dksX4_load_0 13 rfl rfl)
theorem dX4_load_14 : decode cX4_load 14 = .ok (.iconst 0, 1) := dk_3 (dk_at dksX4_load_0 14 rfl rfl)
theorem dX4_load_15 : decode cX4_load 15 = .ok (.putfield 95, 3) := dk_181 0 95 (dk_at dksX4_load_0 15 rfl rfl)
theorem dX4_load_18 : decode cX4_load 18 = .ok (.aload_n 0, 1) := dk_42 (dk_at dksX4_load_0 18 rfl rfl)
theorem dX4_load_19 : decode cX4_load 19 = .ok (.iconst 0, 1) := dk_3 (dk_at dksX4_load_0 19 rfl rfl)
theorem dX4_load_20 : decode cX4_load 20 = .ok (.putfield 115, 3) := dk_181 0 115 (dk_at dksX4_load_0 20 rfl rfl)
theorem dX4_load_23 : decode cX4_load 23 = .ok (.aload_n 0, 1) := dk_42 (dk_at dksX4_load_0 23 rfl rfl)
theorem dX4_load_24 : decode cX4_load 24 = .ok (.iconst (-1), 1) := dk_2 (dk_at dksX4_load_1 0 rfl rfl)
theorem dX4_load_25 : decode cX4_load 25 = .ok (.putfield 147, 3) := dk_181 0 147 (dk_at dksX4_load_1 1 rfl rfl)
theorem dX4_load_28 : decode cX4_load 28 = .ok (.aload_n 0, 1) := dk_42 (dk_at dksX4_load_1 4 rfl rfl)
theorem dX4_load_29 : decode cX4_load 29 = .ok (.invokevirtual 57, 3) := dk_182 0 57 (dk_at dksX4_load_1 5 rfl rfl)
theorem dX4_load_32 : decode cX4_load 32 = .ok (.aload_n 0, 1) := dk_42 (dk_at dksX4_load_1 8 rfl rfl)
theorem dX4_load_33 : decode cX4_load 33 = .ok (.invokevirtual 154, 3) := dk_182 0 154 (dk_at dksX4_load_1 9 rfl rfl)
theorem dX4_load_36 : decode cX4_load 36 = .ok (.aload_n 0, 1) := dk_42 (dk_at dksX4_load_1 12 rfl rfl)
theorem dX4_load_37 : decode cX4_load 37 = .ok (.invokevirtual 150, 3) := dk_182 0 150 (dk_at dksX4_load_1 13 rfl rfl)
theorem dX4_load_40 : decode cX4_load 40 = .ok (.ifCond .eq 17, 3) := dk_153 0 17 (dk_at dksX4_load_1 16 rfl rfl)
theorem dX4_load_43 : decode cX4_load 43 = .ok (.aload_n 0, 1) := dk_42 (dk_at dksX4_load_1 19 rfl rfl)
theorem dX4_load_44 : decode cX4_load 44 = .ok (.getfield 126, 3) := dk_180 0 126 (dk_at dksX4_load_1 20 rfl rfl)
theorem dX4_load_47 : decode cX4_load 47 = .ok (.ifCond .eq 10, 3) := dk_153 0 10 (dk_at dksX4_load_2 0 rfl rfl)
theorem dX4_load_50 : decode cX4_load 50 = .ok (.aload_n 0, 1) := dk_42 (dk_at dksX4_load_2 3 rfl rfl)
theorem dX4_load_51 : decode cX4_load 51 = .ok (.invokevirtual 217, 3) := dk_182 0 217 (dk_at dksX4_load_2 4 rfl rfl)
theorem dX4_load_54 : decode cX4_load 54 = .ok (.goto (-18), 3) := dk_167 255 238 (dk_at dksX4_load_2 7 rfl rfl)
theorem dX4_load_57 : decode cX4_load 57 = .ok (.aload_n 0, 1) := dk_42 (dk_at dksX4_load_2 10 rfl rfl)
theorem dX4_load_58 : decode cX4_load 58 = .ok (.aload_n 0, 1) := dk_42 (dk_at dksX4_load_2 11 rfl rfl)
theorem dX4_load_59 : decode cX4_load 59 = .ok (.getfield 147, 3) := dk_180 0 147 (dk_at dksX4_load_2 12 rfl rfl)
theorem dX4_load_62 : decode cX4_load 62 = .ok (.putfield 53, 3) := dk_181 0 53 (dk_at dksX4_load_2 15 rfl rfl)
theorem dX4_load_65 : decode cX4_load 65 = .ok (.aload_n 0, 1) := dk_42 (dk_at dksX4_load_2 18 rfl rfl)
theorem dX4_load_66 : decode cX4_load 66 = .ok (.invokevirtual 150, 3) := dk_182 0 150 (dk_at dksX4_load_2 19 rfl rfl)
theorem dX4_load_69 : decode cX4_load 69 = .ok (.ifCond .ne 9, 3) := dk_154 0 9 (dk_at dksX4_load_3 0 rfl rfl)
theorem dX4_load_72 : decode cX4_load 72 = .ok (.aload_n 0, 1) := dk_42 (dk_at dksX4_load_3 3 rfl rfl)
theorem dX4_load_73 : decode cX4_load 73 = .ok (.iconst 1, 1) := dk_4 (dk_at dksX4_load_3 4 rfl rfl)
theorem dX4_load_74 : decode cX4_load 74 = .ok (.invokevirtual 98, 3) := dk_182 0 98 (dk_at dksX4_load_3 5 rfl rfl)
theorem dX4_load_77 : decode cX4_load 77 = .ok (.ireturn, 1) := dk_172 (dk_at dksX4_load_3 8 rfl rfl)
theorem dX4_load_78 : decode cX4_load 78 = .ok (.aload_n 0, 1) := dk_42 (dk_at dksX4_load_3 9 rfl rfl)
theorem dX4_load_79 : decode cX4_load 79 = .ok (.invokevirtual 60, 3) := dk_182 0 60 (dk_at dksX4_load_3 10 rfl rfl)
theorem dX4_load_82 : decode cX4_load 82 = .ok (.aload_n 0, 1) := dk_42 (dk_at dksX4_load_3 13 rfl rfl)
theorem dX4_load_83 : decode cX4_load 83 = .ok (.invokevirtual 88, 3) := dk_182 0 88 (dk_at dksX4_load_3 14 rfl rfl)
theorem dX4_load_86 : decode cX4_load 86 = .ok (.ireturn, 1) := dk_172 (dk_at dksX4_load_3 17 rfl rfl)
abbrev cX4_readToken : ByteArray := prog_17_method_27_code
def yX4_readToken : MethodName := ⟨RX4, "readToken", "()V"⟩
def dkwX4_readToken_5 : List UInt8 := [16, 45, 160, 0, 7, 7, 167, 0, 4, 8, 181, 0, 126, 42, 89, 180, 0, 115, 4, 96, 181, 0, 115, 177]
abbrev dktX4_readToken_5 : List UInt8 := dkwX4_readToken_5 ++ []
def dkwX4_readToken_4 : List UInt8 := [180, 0, 115, 182, 0, 108, 16, 59, 160, 0, 7, 6, 167, 0, 21, 42, 42, 180, 0, 115, 182, 0, 108]
abbrev dktX4_readToken_4 : List UInt8 := dkwX4_readToken_4 ++ dktX4_readToken_5
def dkwX4_readToken_3 : List UInt8 := [182, 0, 141, 177, 42, 42, 180, 0, 115, 182, 0, 132, 153, 0, 8, 42, 182, 0, 144, 177, 42, 42, 42]
abbrev dktX4_readToken_3 : List UInt8 := dkwX4_readToken_3 ++ dktX4_readToken_4
def dkwX4_readToken_2 : List UInt8 := [180, 0, 105, 161, 0, 9, 42, 3, 181, 0, 126, 177, 42, 42, 180, 0, 115, 182, 0, 118, 153, 0, 8, 42]
abbrev dktX4_readToken_2 : List UInt8 := dkwX4_readToken_2 ++ dktX4_readToken_3
def dkwX4_readToken_1 : List UInt8 := [180, 0, 115, 4, 96, 181, 0, 115, 167, 255, 224, 42, 42, 180, 0, 115, 181, 0, 138, 42, 180, 0, 115, 42]
abbrev dktX4_readToken_1 : List UInt8 := dkwX4_readToken_1 ++ dktX4_readToken_2
def dkwX4_readToken_0 : List UInt8 := [42, 180, 0, 115, 42, 180, 0, 105, 162, 0, 27, 42, 42, 180, 0, 115, 182, 0, 135, 153, 0, 16, 42, 89]
abbrev dktX4_readToken_0 : List UInt8 := dkwX4_readToken_0 ++ dktX4_readToken_1
theorem dksX4_readToken_0 : cX4_readToken.data.toList.drop 0 = dktX4_readToken_0 := by decide +kernel
theorem dksX4_readToken_1 : cX4_readToken.data.toList.drop 24 = dktX4_readToken_1 := dk_seg dksX4_readToken_0 24 rfl rfl
theorem dksX4_readToken_2 : cX4_readToken.data.toList.drop 48 = dktX4_readToken_2 := dk_seg dksX4_readToken_1 24 rfl rfl
theorem dksX4_readToken_3 : cX4_readToken.data.toList.drop 72 = dktX4_readToken_3 := dk_seg dksX4_readToken_2 24 rfl rfl
theorem dksX4_readToken_4 : cX4_readToken.data.toList.drop 95 = dktX4_readToken_4 := dk_seg dksX4_readToken_3 23 rfl rfl
theorem dksX4_readToken_5 : cX4_readToken.data.toList.drop 118 = dktX4_readToken_5 := dk_seg dksX4_readToken_4 23 rfl rfl
theorem dX4_readToken_0 : decode cX4_readToken 0 = .ok (.aload_n 0, 1) := dk_42 (dk_at dksX4_readToken_0 0 rfl rfl)
theorem dX4_readToken_1 : decode cX4_readToken 1 = .ok (.getfield 115, 3) := dk_180 0 115 (dk_at dksX4_readToken_0 1 rfl rfl)
theorem dX4_readToken_4 : decode cX4_readToken 4 = .ok (.aload_n 0, 1) := dk_42 (dk_at dksX4_readToken_0 4 rfl rfl)
theorem dX4_readToken_5 : decode cX4_readToken 5 = .ok (.getfield 105, 3) := dk_180 0 105 (dk_at dksX4_readToken_0 5 rfl rfl)
theorem dX4_readToken_8 : decode cX4_readToken 8 = .ok (.if_icmp .ge 27, 3) := dk_162 0 27 (dk_at dksX4_readToken_0 8 rfl rfl)
theorem dX4_readToken_11 : decode cX4_readToken 11 = .ok (.aload_n 0, 1) := dk_42 (dk_at dksX4_readToken_0 11 rfl rfl)
theorem dX4_readToken_12 : decode cX4_readToken 12 = .ok (.aload_n 0, 1) := dk_42 (dk_at dksX4_readToken_0 12 rfl rfl)
theorem dX4_readToken_13 : decode cX4_readToken 13 = .ok (.getfield 115, 3) := dk_180 0 115 (dk_at dksX4_readToken_0 13 rfl rfl)
theorem dX4_readToken_16 : decode cX4_readToken 16 = .ok (.invokevirtual 135, 3) := dk_182 0 135 (dk_at dksX4_readToken_0 16 rfl rfl)
theorem dX4_readToken_19 : decode cX4_readToken 19 = .ok (.ifCond .eq 16, 3) := dk_153 0 16 (dk_at dksX4_readToken_0 19 rfl rfl)
theorem dX4_readToken_22 : decode cX4_readToken 22 = .ok (.aload_n 0, 1) := dk_42 (dk_at dksX4_readToken_0 22 rfl rfl)
theorem dX4_readToken_23 : decode cX4_readToken 23 = .ok (.dup, 1) := dk_89 (dk_at dksX4_readToken_0 23 rfl rfl)
theorem dX4_readToken_24 : decode cX4_readToken 24 = .ok (.getfield 115, 3) := dk_180 0 115 (dk_at dksX4_readToken_1 0 rfl rfl)
theorem dX4_readToken_27 : decode cX4_readToken 27 = .ok (.iconst 1, 1) := dk_4 (dk_at dksX4_readToken_1 3 rfl rfl)
theorem dX4_readToken_28 : decode cX4_readToken 28 = .ok (.iadd, 1) := dk_96 (dk_at dksX4_readToken_1 4 rfl rfl)
theorem dX4_readToken_29 : decode cX4_readToken 29 = .ok (.putfield 115, 3) := dk_181 0 115 (dk_at dksX4_readToken_1 5 rfl rfl)
theorem dX4_readToken_32 : decode cX4_readToken 32 = .ok (.goto (-32), 3) := dk_167 255 224 (dk_at dksX4_readToken_1 8 rfl rfl)
theorem dX4_readToken_35 : decode cX4_readToken 35 = .ok (.aload_n 0, 1) := dk_42 (dk_at dksX4_readToken_1 11 rfl rfl)
theorem dX4_readToken_36 : decode cX4_readToken 36 = .ok (.aload_n 0, 1) := dk_42 (dk_at dksX4_readToken_1 12 rfl rfl)
theorem dX4_readToken_37 : decode cX4_readToken 37 = .ok (.getfield 115, 3) := dk_180 0 115 (dk_at dksX4_readToken_1 13 rfl rfl)
theorem dX4_readToken_40 : decode cX4_readToken 40 = .ok (.putfield 138, 3) := dk_181 0 138 (dk_at dksX4_readToken_1 16 rfl rfl)
theorem dX4_readToken_43 : decode cX4_readToken 43 = .ok (.aload_n 0, 1) := dk_42 (dk_at dksX4_readToken_1 19 rfl rfl)
theorem dX4_readToken_44 : decode cX4_readToken 44 = .ok (.getfield 115, 3) := dk_180 0 115 (dk_at dksX4_readToken_1 20 rfl rfl)
theorem dX4_readToken_47 : decode cX4_readToken 47 = .ok (.aload_n 0, 1) := dk_42 (dk_at dksX4_readToken_1 23 rfl rfl)
theorem dX4_readToken_48 : decode cX4_readToken 48 = .ok (.getfield 105, 3) := dk_180 0 105 (dk_at dksX4_readToken_2 0 rfl rfl)
theorem dX4_readToken_51 : decode cX4_readToken 51 = .ok (.if_icmp .lt 9, 3) := dk_161 0 9 (dk_at dksX4_readToken_2 3 rfl rfl)
theorem dX4_readToken_54 : decode cX4_readToken 54 = .ok (.aload_n 0, 1) := dk_42 (dk_at dksX4_readToken_2 6 rfl rfl)
theorem dX4_readToken_55 : decode cX4_readToken 55 = .ok (.iconst 0, 1) := dk_3 (dk_at dksX4_readToken_2 7 rfl rfl)
theorem dX4_readToken_56 : decode cX4_readToken 56 = .ok (.putfield 126, 3) := dk_181 0 126 (dk_at dksX4_readToken_2 8 rfl rfl)
theorem dX4_readToken_59 : decode cX4_readToken 59 = .ok (.return_, 1) := dk_177 (dk_at dksX4_readToken_2 11 rfl rfl)
theorem dX4_readToken_60 : decode cX4_readToken 60 = .ok (.aload_n 0, 1) := dk_42 (dk_at dksX4_readToken_2 12 rfl rfl)
theorem dX4_readToken_61 : decode cX4_readToken 61 = .ok (.aload_n 0, 1) := dk_42 (dk_at dksX4_readToken_2 13 rfl rfl)
theorem dX4_readToken_62 : decode cX4_readToken 62 = .ok (.getfield 115, 3) := dk_180 0 115 (dk_at dksX4_readToken_2 14 rfl rfl)
theorem dX4_readToken_65 : decode cX4_readToken 65 = .ok (.invokevirtual 118, 3) := dk_182 0 118 (dk_at dksX4_readToken_2 17 rfl rfl)
theorem dX4_readToken_68 : decode cX4_readToken 68 = .ok (.ifCond .eq 8, 3) := dk_153 0 8 (dk_at dksX4_readToken_2 20 rfl rfl)
theorem dX4_readToken_71 : decode cX4_readToken 71 = .ok (.aload_n 0, 1) := dk_42 (dk_at dksX4_readToken_2 23 rfl rfl)
theorem dX4_readToken_72 : decode cX4_readToken 72 = .ok (.invokevirtual 141, 3) := dk_182 0 141 (dk_at dksX4_readToken_3 0 rfl rfl)
theorem dX4_readToken_75 : decode cX4_readToken 75 = .ok (.return_, 1) := dk_177 (dk_at dksX4_readToken_3 3 rfl rfl)
theorem dX4_readToken_76 : decode cX4_readToken 76 = .ok (.aload_n 0, 1) := dk_42 (dk_at dksX4_readToken_3 4 rfl rfl)
theorem dX4_readToken_77 : decode cX4_readToken 77 = .ok (.aload_n 0, 1) := dk_42 (dk_at dksX4_readToken_3 5 rfl rfl)
theorem dX4_readToken_78 : decode cX4_readToken 78 = .ok (.getfield 115, 3) := dk_180 0 115 (dk_at dksX4_readToken_3 6 rfl rfl)
theorem dX4_readToken_81 : decode cX4_readToken 81 = .ok (.invokevirtual 132, 3) := dk_182 0 132 (dk_at dksX4_readToken_3 9 rfl rfl)
theorem dX4_readToken_84 : decode cX4_readToken 84 = .ok (.ifCond .eq 8, 3) := dk_153 0 8 (dk_at dksX4_readToken_3 12 rfl rfl)
theorem dX4_readToken_87 : decode cX4_readToken 87 = .ok (.aload_n 0, 1) := dk_42 (dk_at dksX4_readToken_3 15 rfl rfl)
theorem dX4_readToken_88 : decode cX4_readToken 88 = .ok (.invokevirtual 144, 3) := dk_182 0 144 (dk_at dksX4_readToken_3 16 rfl rfl)
theorem dX4_readToken_91 : decode cX4_readToken 91 = .ok (.return_, 1) := dk_177 (dk_at dksX4_readToken_3 19 rfl rfl)
theorem dX4_readToken_92 : decode cX4_readToken 92 = .ok (.aload_n 0, 1) := dk_42 (dk_at dksX4_readToken_3 20 rfl rfl)
theorem dX4_readToken_93 : decode cX4_readToken 93 = .ok (.aload_n 0, 1) := dk_42 (dk_at dksX4_readToken_3 21 rfl rfl)
theorem dX4_readToken_94 : decode cX4_readToken 94 = .ok (.aload_n 0, 1) := dk_42 (dk_at dksX4_readToken_3 22 rfl rfl)
theorem dX4_readToken_95 : decode cX4_readToken 95 = .ok (.getfield 115, 3) := dk_180 0 115 (dk_at dksX4_readToken_4 0 rfl rfl)
theorem dX4_readToken_98 : decode cX4_readToken 98 = .ok (.invokevirtual 108, 3) := dk_182 0 108 (dk_at dksX4_readToken_4 3 rfl rfl)
theorem dX4_readToken_101 : decode cX4_readToken 101 = .ok (.bipush 59, 2) := dk_16 59 (dk_at dksX4_readToken_4 6 rfl rfl)
theorem dX4_readToken_103 : decode cX4_readToken 103 = .ok (.if_icmp .ne 7, 3) := dk_160 0 7 (dk_at dksX4_readToken_4 8 rfl rfl)
theorem dX4_readToken_106 : decode cX4_readToken 106 = .ok (.iconst 3, 1) := dk_6 (dk_at dksX4_readToken_4 11 rfl rfl)
theorem dX4_readToken_107 : decode cX4_readToken 107 = .ok (.goto 21, 3) := dk_167 0 21 (dk_at dksX4_readToken_4 12 rfl rfl)
theorem dX4_readToken_110 : decode cX4_readToken 110 = .ok (.aload_n 0, 1) := dk_42 (dk_at dksX4_readToken_4 15 rfl rfl)
theorem dX4_readToken_111 : decode cX4_readToken 111 = .ok (.aload_n 0, 1) := dk_42 (dk_at dksX4_readToken_4 16 rfl rfl)
theorem dX4_readToken_112 : decode cX4_readToken 112 = .ok (.getfield 115, 3) := dk_180 0 115 (dk_at dksX4_readToken_4 17 rfl rfl)
theorem dX4_readToken_115 : decode cX4_readToken 115 = .ok (.invokevirtual 108, 3) := dk_182 0 108 (dk_at dksX4_readToken_4 20 rfl rfl)
theorem dX4_readToken_118 : decode cX4_readToken 118 = .ok (.bipush 45, 2) := dk_16 45 (dk_at dksX4_readToken_5 0 rfl rfl)
theorem dX4_readToken_120 : decode cX4_readToken 120 = .ok (.if_icmp .ne 7, 3) := dk_160 0 7 (dk_at dksX4_readToken_5 2 rfl rfl)
theorem dX4_readToken_123 : decode cX4_readToken 123 = .ok (.iconst 4, 1) := dk_7 (dk_at dksX4_readToken_5 5 rfl rfl)
theorem dX4_readToken_124 : decode cX4_readToken 124 = .ok (.goto 4, 3) := dk_167 0 4 (dk_at dksX4_readToken_5 6 rfl rfl)
theorem dX4_readToken_127 : decode cX4_readToken 127 = .ok (.iconst 5, 1) := dk_8 (dk_at dksX4_readToken_5 9 rfl rfl)
theorem dX4_readToken_128 : decode cX4_readToken 128 = .ok (.putfield 126, 3) := dk_181 0 126 (dk_at dksX4_readToken_5 10 rfl rfl)
theorem dX4_readToken_131 : decode cX4_readToken 131 = .ok (.aload_n 0, 1) := dk_42 (dk_at dksX4_readToken_5 13 rfl rfl)
theorem dX4_readToken_132 : decode cX4_readToken 132 = .ok (.dup, 1) := dk_89 (dk_at dksX4_readToken_5 14 rfl rfl)
theorem dX4_readToken_133 : decode cX4_readToken 133 = .ok (.getfield 115, 3) := dk_180 0 115 (dk_at dksX4_readToken_5 15 rfl rfl)
theorem dX4_readToken_136 : decode cX4_readToken 136 = .ok (.iconst 1, 1) := dk_4 (dk_at dksX4_readToken_5 18 rfl rfl)
theorem dX4_readToken_137 : decode cX4_readToken 137 = .ok (.iadd, 1) := dk_96 (dk_at dksX4_readToken_5 19 rfl rfl)
theorem dX4_readToken_138 : decode cX4_readToken 138 = .ok (.putfield 115, 3) := dk_181 0 115 (dk_at dksX4_readToken_5 20 rfl rfl)
theorem dX4_readToken_141 : decode cX4_readToken 141 = .ok (.return_, 1) := dk_177 (dk_at dksX4_readToken_5 23 rfl rfl)
abbrev cX4_isBlank : ByteArray := prog_17_method_24_code
def yX4_isBlank : MethodName := ⟨RX4, "isBlank", "(I)Z"⟩
def dkwX4_isBlank_1 : List UInt8 := [3, 172]
abbrev dktX4_isBlank_1 : List UInt8 := dkwX4_isBlank_1 ++ []
def dkwX4_isBlank_0 : List UInt8 := [42, 27, 182, 0, 108, 16, 32, 159, 0, 13, 42, 27, 182, 0, 108, 16, 10, 160, 0, 7, 4, 167, 0, 4]
abbrev dktX4_isBlank_0 : List UInt8 := dkwX4_isBlank_0 ++ dktX4_isBlank_1
theorem dksX4_isBlank_0 : cX4_isBlank.data.toList.drop 0 = dktX4_isBlank_0 := by decide +kernel
theorem dksX4_isBlank_1 : cX4_isBlank.data.toList.drop 24 = dktX4_isBlank_1 := dk_seg dksX4_isBlank_0 24 rfl rfl
theorem dX4_isBlank_0 : decode cX4_isBlank 0 = .ok (.aload_n 0, 1) := dk_42 (dk_at dksX4_isBlank_0 0 rfl rfl)
theorem dX4_isBlank_1 : decode cX4_isBlank 1 = .ok (.iload_n 1, 1) := dk_27 (dk_at dksX4_isBlank_0 1 rfl rfl)
theorem dX4_isBlank_2 : decode cX4_isBlank 2 = .ok (.invokevirtual 108, 3) := dk_182 0 108 (dk_at dksX4_isBlank_0 2 rfl rfl)
theorem dX4_isBlank_5 : decode cX4_isBlank 5 = .ok (.bipush 32, 2) := dk_16 32 (dk_at dksX4_isBlank_0 5 rfl rfl)
theorem dX4_isBlank_7 : decode cX4_isBlank 7 = .ok (.if_icmp .eq 13, 3) := dk_159 0 13 (dk_at dksX4_isBlank_0 7 rfl rfl)
theorem dX4_isBlank_10 : decode cX4_isBlank 10 = .ok (.aload_n 0, 1) := dk_42 (dk_at dksX4_isBlank_0 10 rfl rfl)
theorem dX4_isBlank_11 : decode cX4_isBlank 11 = .ok (.iload_n 1, 1) := dk_27 (dk_at dksX4_isBlank_0 11 rfl rfl)
theorem dX4_isBlank_12 : decode cX4_isBlank 12 = .ok (.invokevirtual 108, 3) := dk_182 0 108 (dk_at dksX4_isBlank_0 12 rfl rfl)
theorem dX4_isBlank_15 : decode cX4_isBlank 15 = .ok (.bipush 10, 2) := dk_16 10 (dk_at dksX4_isBlank_0 15 rfl rfl)
theorem dX4_isBlank_17 : decode cX4_isBlank 17 = .ok (.if_icmp .ne 7, 3) := dk_160 0 7 (dk_at dksX4_isBlank_0 17 rfl rfl)
theorem dX4_isBlank_20 : decode cX4_isBlank 20 = .ok (.iconst 1, 1) := dk_4 (dk_at dksX4_isBlank_0 20 rfl rfl)
theorem dX4_isBlank_21 : decode cX4_isBlank 21 = .ok (.goto 4, 3) := dk_167 0 4 (dk_at dksX4_isBlank_0 21 rfl rfl)
theorem dX4_isBlank_24 : decode cX4_isBlank 24 = .ok (.iconst 0, 1) := dk_3 (dk_at dksX4_isBlank_1 0 rfl rfl)
theorem dX4_isBlank_25 : decode cX4_isBlank 25 = .ok (.ireturn, 1) := dk_172 (dk_at dksX4_isBlank_1 1 rfl rfl)
abbrev cX4_byteAt : ByteArray := prog_17_method_21_code
def yX4_byteAt : MethodName := ⟨RX4, "byteAt", "(I)I"⟩
def dkwX4_byteAt_0 : List UInt8 := [27, 42, 180, 0, 105, 162, 0, 12, 42, 180, 0, 23, 27, 51, 167, 0, 4, 3, 172]
abbrev dktX4_byteAt_0 : List UInt8 := dkwX4_byteAt_0 ++ []
theorem dksX4_byteAt_0 : cX4_byteAt.data.toList.drop 0 = dktX4_byteAt_0 := by decide +kernel
theorem dX4_byteAt_0 : decode cX4_byteAt 0 = .ok (.iload_n 1, 1) := dk_27 (dk_at dksX4_byteAt_0 0 rfl rfl)
theorem dX4_byteAt_1 : decode cX4_byteAt 1 = .ok (.aload_n 0, 1) := dk_42 (dk_at dksX4_byteAt_0 1 rfl rfl)
theorem dX4_byteAt_2 : decode cX4_byteAt 2 = .ok (.getfield 105, 3) := dk_180 0 105 (dk_at dksX4_byteAt_0 2 rfl rfl)
theorem dX4_byteAt_5 : decode cX4_byteAt 5 = .ok (.if_icmp .ge 12, 3) := dk_162 0 12 (dk_at dksX4_byteAt_0 5 rfl rfl)
theorem dX4_byteAt_8 : decode cX4_byteAt 8 = .ok (.aload_n 0, 1) := dk_42 (dk_at dksX4_byteAt_0 8 rfl rfl)
theorem dX4_byteAt_9 : decode cX4_byteAt 9 = .ok (.getfield 23, 3) := dk_180 0 23 (dk_at dksX4_byteAt_0 9 rfl rfl)
theorem dX4_byteAt_12 : decode cX4_byteAt 12 = .ok (.iload_n 1, 1) := dk_27 (dk_at dksX4_byteAt_0 12 rfl rfl)
theorem dX4_byteAt_13 : decode cX4_byteAt 13 = .ok (.baload, 1) := dk_51 (dk_at dksX4_byteAt_0 13 rfl rfl)
theorem dX4_byteAt_14 : decode cX4_byteAt 14 = .ok (.goto 4, 3) := dk_167 0 4 (dk_at dksX4_byteAt_0 14 rfl rfl)
theorem dX4_byteAt_17 : decode cX4_byteAt 17 = .ok (.iconst 0, 1) := dk_3 (dk_at dksX4_byteAt_0 17 rfl rfl)
theorem dX4_byteAt_18 : decode cX4_byteAt 18 = .ok (.ireturn, 1) := dk_172 (dk_at dksX4_byteAt_0 18 rfl rfl)
abbrev cX4_isLetter : ByteArray := prog_17_method_22_code
def yX4_isLetter : MethodName := ⟨RX4, "isLetter", "(I)Z"⟩
def dkwX4_isLetter_0 : List UInt8 := [42, 27, 182, 0, 108, 16, 97, 16, 122, 184, 0, 84, 172]
abbrev dktX4_isLetter_0 : List UInt8 := dkwX4_isLetter_0 ++ []
theorem dksX4_isLetter_0 : cX4_isLetter.data.toList.drop 0 = dktX4_isLetter_0 := by decide +kernel
theorem dX4_isLetter_0 : decode cX4_isLetter 0 = .ok (.aload_n 0, 1) := dk_42 (dk_at dksX4_isLetter_0 0 rfl rfl)
theorem dX4_isLetter_1 : decode cX4_isLetter 1 = .ok (.iload_n 1, 1) := dk_27 (dk_at dksX4_isLetter_0 1 rfl rfl)
theorem dX4_isLetter_2 : decode cX4_isLetter 2 = .ok (.invokevirtual 108, 3) := dk_182 0 108 (dk_at dksX4_isLetter_0 2 rfl rfl)
theorem dX4_isLetter_5 : decode cX4_isLetter 5 = .ok (.bipush 97, 2) := dk_16 97 (dk_at dksX4_isLetter_0 5 rfl rfl)
theorem dX4_isLetter_7 : decode cX4_isLetter 7 = .ok (.bipush 122, 2) := dk_16 122 (dk_at dksX4_isLetter_0 7 rfl rfl)
theorem dX4_isLetter_9 : decode cX4_isLetter 9 = .ok (.invokestatic 84, 3) := dk_184 0 84 (dk_at dksX4_isLetter_0 9 rfl rfl)
theorem dX4_isLetter_12 : decode cX4_isLetter 12 = .ok (.ireturn, 1) := dk_172 (dk_at dksX4_isLetter_0 12 rfl rfl)
abbrev cX4_readWord : ByteArray := prog_17_method_25_code
def yX4_readWord : MethodName := ⟨RX4, "readWord", "()V"⟩
def dkwX4_readWord_3 : List UInt8 := [164, 0, 7, 8, 167, 0, 4, 4, 181, 0, 126, 177]
abbrev dktX4_readWord_3 : List UInt8 := dkwX4_readWord_3 ++ []
def dkwX4_readWord_2 : List UInt8 := [97, 181, 0, 111, 132, 1, 1, 42, 89, 180, 0, 115, 4, 96, 181, 0, 115, 167, 255, 198, 42, 27, 16, 8]
abbrev dktX4_readWord_2 : List UInt8 := dkwX4_readWord_2 ++ dktX4_readWord_3
def dkwX4_readWord_1 : List UInt8 := [42, 20, 0, 122, 42, 180, 0, 111, 105, 42, 42, 180, 0, 115, 182, 0, 108, 133, 97, 20, 0, 124, 101, 10]
abbrev dktX4_readWord_1 : List UInt8 := dkwX4_readWord_1 ++ dktX4_readWord_2
def dkwX4_readWord_0 : List UInt8 := [42, 9, 181, 0, 111, 3, 60, 42, 42, 180, 0, 115, 182, 0, 118, 153, 0, 53, 27, 16, 8, 162, 0, 31]
abbrev dktX4_readWord_0 : List UInt8 := dkwX4_readWord_0 ++ dktX4_readWord_1
theorem dksX4_readWord_0 : cX4_readWord.data.toList.drop 0 = dktX4_readWord_0 := by decide +kernel
theorem dksX4_readWord_1 : cX4_readWord.data.toList.drop 24 = dktX4_readWord_1 := dk_seg dksX4_readWord_0 24 rfl rfl
theorem dksX4_readWord_2 : cX4_readWord.data.toList.drop 48 = dktX4_readWord_2 := dk_seg dksX4_readWord_1 24 rfl rfl
theorem dksX4_readWord_3 : cX4_readWord.data.toList.drop 72 = dktX4_readWord_3 := dk_seg dksX4_readWord_2 24 rfl rfl
theorem dX4_readWord_0 : decode cX4_readWord 0 = .ok (.aload_n 0, 1) := dk_42 (dk_at dksX4_readWord_0 0 rfl rfl)
theorem dX4_readWord_1 : decode cX4_readWord 1 = .ok (.lconst 0, 1) := dk_9 (dk_at dksX4_readWord_0 1 rfl rfl)
theorem dX4_readWord_2 : decode cX4_readWord 2 = .ok (.putfield 111, 3) := dk_181 0 111 (dk_at dksX4_readWord_0 2 rfl rfl)
theorem dX4_readWord_5 : decode cX4_readWord 5 = .ok (.iconst 0, 1) := dk_3 (dk_at dksX4_readWord_0 5 rfl rfl)
theorem dX4_readWord_6 : decode cX4_readWord 6 = .ok (.istore_n 1, 1) := dk_60 (dk_at dksX4_readWord_0 6 rfl rfl)
theorem dX4_readWord_7 : decode cX4_readWord 7 = .ok (.aload_n 0, 1) := dk_42 (dk_at dksX4_readWord_0 7 rfl rfl)
theorem dX4_readWord_8 : decode cX4_readWord 8 = .ok (.aload_n 0, 1) := dk_42 (dk_at dksX4_readWord_0 8 rfl rfl)
theorem dX4_readWord_9 : decode cX4_readWord 9 = .ok (.getfield 115, 3) := dk_180 0 115 (dk_at dksX4_readWord_0 9 rfl rfl)
theorem dX4_readWord_12 : decode cX4_readWord 12 = .ok (.invokevirtual 118, 3) := dk_182 0 118 (dk_at dksX4_readWord_0 12 rfl rfl)
theorem dX4_readWord_15 : decode cX4_readWord 15 = .ok (.ifCond .eq 53, 3) := dk_153 0 53 (dk_at dksX4_readWord_0 15 rfl rfl)
theorem dX4_readWord_18 : decode cX4_readWord 18 = .ok (.iload_n 1, 1) := dk_27 (dk_at dksX4_readWord_0 18 rfl rfl)
theorem dX4_readWord_19 : decode cX4_readWord 19 = .ok (.bipush 8, 2) := dk_16 8 (dk_at dksX4_readWord_0 19 rfl rfl)
theorem dX4_readWord_21 : decode cX4_readWord 21 = .ok (.if_icmp .ge 31, 3) := dk_162 0 31 (dk_at dksX4_readWord_0 21 rfl rfl)
theorem dX4_readWord_24 : decode cX4_readWord 24 = .ok (.aload_n 0, 1) := dk_42 (dk_at dksX4_readWord_1 0 rfl rfl)
theorem dX4_readWord_25 : decode cX4_readWord 25 = .ok (.ldc2_w 122, 3) := dk_20 0 122 (dk_at dksX4_readWord_1 1 rfl rfl)
theorem dX4_readWord_28 : decode cX4_readWord 28 = .ok (.aload_n 0, 1) := dk_42 (dk_at dksX4_readWord_1 4 rfl rfl)
theorem dX4_readWord_29 : decode cX4_readWord 29 = .ok (.getfield 111, 3) := dk_180 0 111 (dk_at dksX4_readWord_1 5 rfl rfl)
theorem dX4_readWord_32 : decode cX4_readWord 32 = .ok (.lmul, 1) := dk_105 (dk_at dksX4_readWord_1 8 rfl rfl)
theorem dX4_readWord_33 : decode cX4_readWord 33 = .ok (.aload_n 0, 1) := dk_42 (dk_at dksX4_readWord_1 9 rfl rfl)
theorem dX4_readWord_34 : decode cX4_readWord 34 = .ok (.aload_n 0, 1) := dk_42 (dk_at dksX4_readWord_1 10 rfl rfl)
theorem dX4_readWord_35 : decode cX4_readWord 35 = .ok (.getfield 115, 3) := dk_180 0 115 (dk_at dksX4_readWord_1 11 rfl rfl)
theorem dX4_readWord_38 : decode cX4_readWord 38 = .ok (.invokevirtual 108, 3) := dk_182 0 108 (dk_at dksX4_readWord_1 14 rfl rfl)
theorem dX4_readWord_41 : decode cX4_readWord 41 = .ok (.i2l, 1) := dk_133 (dk_at dksX4_readWord_1 17 rfl rfl)
theorem dX4_readWord_42 : decode cX4_readWord 42 = .ok (.ladd, 1) := dk_97 (dk_at dksX4_readWord_1 18 rfl rfl)
theorem dX4_readWord_43 : decode cX4_readWord 43 = .ok (.ldc2_w 124, 3) := dk_20 0 124 (dk_at dksX4_readWord_1 19 rfl rfl)
theorem dX4_readWord_46 : decode cX4_readWord 46 = .ok (.lsub, 1) := dk_101 (dk_at dksX4_readWord_1 22 rfl rfl)
theorem dX4_readWord_47 : decode cX4_readWord 47 = .ok (.lconst 1, 1) := dk_10 (dk_at dksX4_readWord_1 23 rfl rfl)
theorem dX4_readWord_48 : decode cX4_readWord 48 = .ok (.ladd, 1) := dk_97 (dk_at dksX4_readWord_2 0 rfl rfl)
theorem dX4_readWord_49 : decode cX4_readWord 49 = .ok (.putfield 111, 3) := dk_181 0 111 (dk_at dksX4_readWord_2 1 rfl rfl)
theorem dX4_readWord_52 : decode cX4_readWord 52 = .ok (.iinc 1 1, 3) := dk_132 1 1 (dk_at dksX4_readWord_2 4 rfl rfl)
theorem dX4_readWord_55 : decode cX4_readWord 55 = .ok (.aload_n 0, 1) := dk_42 (dk_at dksX4_readWord_2 7 rfl rfl)
theorem dX4_readWord_56 : decode cX4_readWord 56 = .ok (.dup, 1) := dk_89 (dk_at dksX4_readWord_2 8 rfl rfl)
theorem dX4_readWord_57 : decode cX4_readWord 57 = .ok (.getfield 115, 3) := dk_180 0 115 (dk_at dksX4_readWord_2 9 rfl rfl)
theorem dX4_readWord_60 : decode cX4_readWord 60 = .ok (.iconst 1, 1) := dk_4 (dk_at dksX4_readWord_2 12 rfl rfl)
theorem dX4_readWord_61 : decode cX4_readWord 61 = .ok (.iadd, 1) := dk_96 (dk_at dksX4_readWord_2 13 rfl rfl)
theorem dX4_readWord_62 : decode cX4_readWord 62 = .ok (.putfield 115, 3) := dk_181 0 115 (dk_at dksX4_readWord_2 14 rfl rfl)
theorem dX4_readWord_65 : decode cX4_readWord 65 = .ok (.goto (-58), 3) := dk_167 255 198 (dk_at dksX4_readWord_2 17 rfl rfl)
theorem dX4_readWord_68 : decode cX4_readWord 68 = .ok (.aload_n 0, 1) := dk_42 (dk_at dksX4_readWord_2 20 rfl rfl)
theorem dX4_readWord_69 : decode cX4_readWord 69 = .ok (.iload_n 1, 1) := dk_27 (dk_at dksX4_readWord_2 21 rfl rfl)
theorem dX4_readWord_70 : decode cX4_readWord 70 = .ok (.bipush 8, 2) := dk_16 8 (dk_at dksX4_readWord_2 22 rfl rfl)
theorem dX4_readWord_72 : decode cX4_readWord 72 = .ok (.if_icmp .le 7, 3) := dk_164 0 7 (dk_at dksX4_readWord_3 0 rfl rfl)
theorem dX4_readWord_75 : decode cX4_readWord 75 = .ok (.iconst 5, 1) := dk_8 (dk_at dksX4_readWord_3 3 rfl rfl)
theorem dX4_readWord_76 : decode cX4_readWord 76 = .ok (.goto 4, 3) := dk_167 0 4 (dk_at dksX4_readWord_3 4 rfl rfl)
theorem dX4_readWord_79 : decode cX4_readWord 79 = .ok (.iconst 1, 1) := dk_4 (dk_at dksX4_readWord_3 7 rfl rfl)
theorem dX4_readWord_80 : decode cX4_readWord 80 = .ok (.putfield 126, 3) := dk_181 0 126 (dk_at dksX4_readWord_3 8 rfl rfl)
theorem dX4_readWord_83 : decode cX4_readWord 83 = .ok (.return_, 1) := dk_177 (dk_at dksX4_readWord_3 11 rfl rfl)
abbrev cX4_isDigit : ByteArray := prog_17_method_23_code
def yX4_isDigit : MethodName := ⟨RX4, "isDigit", "(I)Z"⟩
def dkwX4_isDigit_0 : List UInt8 := [42, 27, 182, 0, 108, 16, 48, 16, 57, 184, 0, 84, 172]
abbrev dktX4_isDigit_0 : List UInt8 := dkwX4_isDigit_0 ++ []
theorem dksX4_isDigit_0 : cX4_isDigit.data.toList.drop 0 = dktX4_isDigit_0 := by decide +kernel
theorem dX4_isDigit_0 : decode cX4_isDigit 0 = .ok (.aload_n 0, 1) := dk_42 (dk_at dksX4_isDigit_0 0 rfl rfl)
theorem dX4_isDigit_1 : decode cX4_isDigit 1 = .ok (.iload_n 1, 1) := dk_27 (dk_at dksX4_isDigit_0 1 rfl rfl)
theorem dX4_isDigit_2 : decode cX4_isDigit 2 = .ok (.invokevirtual 108, 3) := dk_182 0 108 (dk_at dksX4_isDigit_0 2 rfl rfl)
theorem dX4_isDigit_5 : decode cX4_isDigit 5 = .ok (.bipush 48, 2) := dk_16 48 (dk_at dksX4_isDigit_0 5 rfl rfl)
theorem dX4_isDigit_7 : decode cX4_isDigit 7 = .ok (.bipush 57, 2) := dk_16 57 (dk_at dksX4_isDigit_0 7 rfl rfl)
theorem dX4_isDigit_9 : decode cX4_isDigit 9 = .ok (.invokestatic 84, 3) := dk_184 0 84 (dk_at dksX4_isDigit_0 9 rfl rfl)
theorem dX4_isDigit_12 : decode cX4_isDigit 12 = .ok (.ireturn, 1) := dk_172 (dk_at dksX4_isDigit_0 12 rfl rfl)
abbrev cX4_readNumber : ByteArray := prog_17_method_26_code
def yX4_readNumber : MethodName := ⟨RX4, "readNumber", "()V"⟩
def dkwX4_readNumber_3 : List UInt8 := [167, 0, 4, 5, 181, 0, 126, 177]
abbrev dktX4_readNumber_3 : List UInt8 := dkwX4_readNumber_3 ++ []
def dkwX4_readNumber_2 : List UInt8 := [132, 1, 1, 42, 89, 180, 0, 115, 4, 96, 181, 0, 115, 167, 255, 204, 42, 27, 7, 164, 0, 7, 8]
abbrev dktX4_readNumber_2 : List UInt8 := dkwX4_readNumber_2 ++ dktX4_readNumber_3
def dkwX4_readNumber_1 : List UInt8 := [16, 10, 42, 180, 0, 129, 104, 42, 42, 180, 0, 115, 182, 0, 108, 96, 16, 48, 100, 181, 0, 129]
abbrev dktX4_readNumber_1 : List UInt8 := dkwX4_readNumber_1 ++ dktX4_readNumber_2
def dkwX4_readNumber_0 : List UInt8 := [42, 3, 181, 0, 129, 3, 60, 42, 42, 180, 0, 115, 182, 0, 132, 153, 0, 47, 27, 7, 162, 0, 26, 42]
abbrev dktX4_readNumber_0 : List UInt8 := dkwX4_readNumber_0 ++ dktX4_readNumber_1
theorem dksX4_readNumber_0 : cX4_readNumber.data.toList.drop 0 = dktX4_readNumber_0 := by decide +kernel
theorem dksX4_readNumber_1 : cX4_readNumber.data.toList.drop 24 = dktX4_readNumber_1 := dk_seg dksX4_readNumber_0 24 rfl rfl
theorem dksX4_readNumber_2 : cX4_readNumber.data.toList.drop 46 = dktX4_readNumber_2 := dk_seg dksX4_readNumber_1 22 rfl rfl
theorem dksX4_readNumber_3 : cX4_readNumber.data.toList.drop 69 = dktX4_readNumber_3 := dk_seg dksX4_readNumber_2 23 rfl rfl
theorem dX4_readNumber_0 : decode cX4_readNumber 0 = .ok (.aload_n 0, 1) := dk_42 (dk_at dksX4_readNumber_0 0 rfl rfl)
theorem dX4_readNumber_1 : decode cX4_readNumber 1 = .ok (.iconst 0, 1) := dk_3 (dk_at dksX4_readNumber_0 1 rfl rfl)
theorem dX4_readNumber_2 : decode cX4_readNumber 2 = .ok (.putfield 129, 3) := dk_181 0 129 (dk_at dksX4_readNumber_0 2 rfl rfl)
theorem dX4_readNumber_5 : decode cX4_readNumber 5 = .ok (.iconst 0, 1) := dk_3 (dk_at dksX4_readNumber_0 5 rfl rfl)
theorem dX4_readNumber_6 : decode cX4_readNumber 6 = .ok (.istore_n 1, 1) := dk_60 (dk_at dksX4_readNumber_0 6 rfl rfl)
theorem dX4_readNumber_7 : decode cX4_readNumber 7 = .ok (.aload_n 0, 1) := dk_42 (dk_at dksX4_readNumber_0 7 rfl rfl)
theorem dX4_readNumber_8 : decode cX4_readNumber 8 = .ok (.aload_n 0, 1) := dk_42 (dk_at dksX4_readNumber_0 8 rfl rfl)
theorem dX4_readNumber_9 : decode cX4_readNumber 9 = .ok (.getfield 115, 3) := dk_180 0 115 (dk_at dksX4_readNumber_0 9 rfl rfl)
theorem dX4_readNumber_12 : decode cX4_readNumber 12 = .ok (.invokevirtual 132, 3) := dk_182 0 132 (dk_at dksX4_readNumber_0 12 rfl rfl)
theorem dX4_readNumber_15 : decode cX4_readNumber 15 = .ok (.ifCond .eq 47, 3) := dk_153 0 47 (dk_at dksX4_readNumber_0 15 rfl rfl)
theorem dX4_readNumber_18 : decode cX4_readNumber 18 = .ok (.iload_n 1, 1) := dk_27 (dk_at dksX4_readNumber_0 18 rfl rfl)
theorem dX4_readNumber_19 : decode cX4_readNumber 19 = .ok (.iconst 4, 1) := dk_7 (dk_at dksX4_readNumber_0 19 rfl rfl)
theorem dX4_readNumber_20 : decode cX4_readNumber 20 = .ok (.if_icmp .ge 26, 3) := dk_162 0 26 (dk_at dksX4_readNumber_0 20 rfl rfl)
theorem dX4_readNumber_23 : decode cX4_readNumber 23 = .ok (.aload_n 0, 1) := dk_42 (dk_at dksX4_readNumber_0 23 rfl rfl)
theorem dX4_readNumber_24 : decode cX4_readNumber 24 = .ok (.bipush 10, 2) := dk_16 10 (dk_at dksX4_readNumber_1 0 rfl rfl)
theorem dX4_readNumber_26 : decode cX4_readNumber 26 = .ok (.aload_n 0, 1) := dk_42 (dk_at dksX4_readNumber_1 2 rfl rfl)
theorem dX4_readNumber_27 : decode cX4_readNumber 27 = .ok (.getfield 129, 3) := dk_180 0 129 (dk_at dksX4_readNumber_1 3 rfl rfl)
theorem dX4_readNumber_30 : decode cX4_readNumber 30 = .ok (.imul, 1) := dk_104 (dk_at dksX4_readNumber_1 6 rfl rfl)
theorem dX4_readNumber_31 : decode cX4_readNumber 31 = .ok (.aload_n 0, 1) := dk_42 (dk_at dksX4_readNumber_1 7 rfl rfl)
theorem dX4_readNumber_32 : decode cX4_readNumber 32 = .ok (.aload_n 0, 1) := dk_42 (dk_at dksX4_readNumber_1 8 rfl rfl)
theorem dX4_readNumber_33 : decode cX4_readNumber 33 = .ok (.getfield 115, 3) := dk_180 0 115 (dk_at dksX4_readNumber_1 9 rfl rfl)
theorem dX4_readNumber_36 : decode cX4_readNumber 36 = .ok (.invokevirtual 108, 3) := dk_182 0 108 (dk_at dksX4_readNumber_1 12 rfl rfl)
theorem dX4_readNumber_39 : decode cX4_readNumber 39 = .ok (.iadd, 1) := dk_96 (dk_at dksX4_readNumber_1 15 rfl rfl)
theorem dX4_readNumber_40 : decode cX4_readNumber 40 = .ok (.bipush 48, 2) := dk_16 48 (dk_at dksX4_readNumber_1 16 rfl rfl)
theorem dX4_readNumber_42 : decode cX4_readNumber 42 = .ok (.isub, 1) := dk_100 (dk_at dksX4_readNumber_1 18 rfl rfl)
theorem dX4_readNumber_43 : decode cX4_readNumber 43 = .ok (.putfield 129, 3) := dk_181 0 129 (dk_at dksX4_readNumber_1 19 rfl rfl)
theorem dX4_readNumber_46 : decode cX4_readNumber 46 = .ok (.iinc 1 1, 3) := dk_132 1 1 (dk_at dksX4_readNumber_2 0 rfl rfl)
theorem dX4_readNumber_49 : decode cX4_readNumber 49 = .ok (.aload_n 0, 1) := dk_42 (dk_at dksX4_readNumber_2 3 rfl rfl)
theorem dX4_readNumber_50 : decode cX4_readNumber 50 = .ok (.dup, 1) := dk_89 (dk_at dksX4_readNumber_2 4 rfl rfl)
theorem dX4_readNumber_51 : decode cX4_readNumber 51 = .ok (.getfield 115, 3) := dk_180 0 115 (dk_at dksX4_readNumber_2 5 rfl rfl)
theorem dX4_readNumber_54 : decode cX4_readNumber 54 = .ok (.iconst 1, 1) := dk_4 (dk_at dksX4_readNumber_2 8 rfl rfl)
theorem dX4_readNumber_55 : decode cX4_readNumber 55 = .ok (.iadd, 1) := dk_96 (dk_at dksX4_readNumber_2 9 rfl rfl)
theorem dX4_readNumber_56 : decode cX4_readNumber 56 = .ok (.putfield 115, 3) := dk_181 0 115 (dk_at dksX4_readNumber_2 10 rfl rfl)
theorem dX4_readNumber_59 : decode cX4_readNumber 59 = .ok (.goto (-52), 3) := dk_167 255 204 (dk_at dksX4_readNumber_2 13 rfl rfl)
theorem dX4_readNumber_62 : decode cX4_readNumber 62 = .ok (.aload_n 0, 1) := dk_42 (dk_at dksX4_readNumber_2 16 rfl rfl)
theorem dX4_readNumber_63 : decode cX4_readNumber 63 = .ok (.iload_n 1, 1) := dk_27 (dk_at dksX4_readNumber_2 17 rfl rfl)
theorem dX4_readNumber_64 : decode cX4_readNumber 64 = .ok (.iconst 4, 1) := dk_7 (dk_at dksX4_readNumber_2 18 rfl rfl)
theorem dX4_readNumber_65 : decode cX4_readNumber 65 = .ok (.if_icmp .le 7, 3) := dk_164 0 7 (dk_at dksX4_readNumber_2 19 rfl rfl)
theorem dX4_readNumber_68 : decode cX4_readNumber 68 = .ok (.iconst 5, 1) := dk_8 (dk_at dksX4_readNumber_2 22 rfl rfl)
theorem dX4_readNumber_69 : decode cX4_readNumber 69 = .ok (.goto 4, 3) := dk_167 0 4 (dk_at dksX4_readNumber_3 0 rfl rfl)
theorem dX4_readNumber_72 : decode cX4_readNumber 72 = .ok (.iconst 2, 1) := dk_5 (dk_at dksX4_readNumber_3 3 rfl rfl)
theorem dX4_readNumber_73 : decode cX4_readNumber 73 = .ok (.putfield 126, 3) := dk_181 0 126 (dk_at dksX4_readNumber_3 4 rfl rfl)
theorem dX4_readNumber_76 : decode cX4_readNumber 76 = .ok (.return_, 1) := dk_177 (dk_at dksX4_readNumber_3 7 rfl rfl)
abbrev cX4_isWell : ByteArray := prog_17_method_28_code
def yX4_isWell : MethodName := ⟨RX4, "isWell", "()Z"⟩
def dkwX4_isWell_0 : List UInt8 := [42, 180, 0, 147, 2, 160, 0, 7, 4, 167, 0, 4, 3, 172]
abbrev dktX4_isWell_0 : List UInt8 := dkwX4_isWell_0 ++ []
theorem dksX4_isWell_0 : cX4_isWell.data.toList.drop 0 = dktX4_isWell_0 := by decide +kernel
theorem dX4_isWell_0 : decode cX4_isWell 0 = .ok (.aload_n 0, 1) := dk_42 (dk_at dksX4_isWell_0 0 rfl rfl)
theorem dX4_isWell_1 : decode cX4_isWell 1 = .ok (.getfield 147, 3) := dk_180 0 147 (dk_at dksX4_isWell_0 1 rfl rfl)
theorem dX4_isWell_4 : decode cX4_isWell 4 = .ok (.iconst (-1), 1) := dk_2 (dk_at dksX4_isWell_0 4 rfl rfl)
theorem dX4_isWell_5 : decode cX4_isWell 5 = .ok (.if_icmp .ne 7, 3) := dk_160 0 7 (dk_at dksX4_isWell_0 5 rfl rfl)
theorem dX4_isWell_8 : decode cX4_isWell 8 = .ok (.iconst 1, 1) := dk_4 (dk_at dksX4_isWell_0 8 rfl rfl)
theorem dX4_isWell_9 : decode cX4_isWell 9 = .ok (.goto 4, 3) := dk_167 0 4 (dk_at dksX4_isWell_0 9 rfl rfl)
theorem dX4_isWell_12 : decode cX4_isWell 12 = .ok (.iconst 0, 1) := dk_3 (dk_at dksX4_isWell_0 12 rfl rfl)
theorem dX4_isWell_13 : decode cX4_isWell 13 = .ok (.ireturn, 1) := dk_172 (dk_at dksX4_isWell_0 13 rfl rfl)
abbrev cX4_readStatement : ByteArray := prog_17_method_44_code
def yX4_readStatement : MethodName := ⟨RX4, "readStatement", "()V"⟩
def dkwX4_readStatement_6 : List UInt8 := [177]
abbrev dktX4_readStatement_6 : List UInt8 := dkwX4_readStatement_6 ++ []
def dkwX4_readStatement_5 : List UInt8 := [182, 0, 178, 42, 42, 180, 0, 126, 6, 160, 0, 7, 4, 167, 0, 4, 3, 182, 0, 178, 42, 182, 0, 182]
abbrev dktX4_readStatement_5 : List UInt8 := dkwX4_readStatement_5 ++ dktX4_readStatement_6
def dkwX4_readStatement_4 : List UInt8 := [16, 115, 3, 3, 3, 184, 0, 197, 182, 0, 201, 153, 0, 10, 42, 182, 0, 214, 167, 0, 8, 42, 3]
abbrev dktX4_readStatement_4 : List UInt8 := dkwX4_readStatement_4 ++ dktX4_readStatement_5
def dkwX4_readStatement_3 : List UInt8 := [184, 0, 197, 182, 0, 201, 153, 0, 10, 42, 182, 0, 211, 167, 0, 36, 42, 16, 112, 16, 97, 16, 115]
abbrev dktX4_readStatement_3 : List UInt8 := dkwX4_readStatement_3 ++ dktX4_readStatement_4
def dkwX4_readStatement_2 : List UInt8 := [153, 0, 10, 42, 182, 0, 208, 167, 0, 64, 42, 16, 119, 16, 97, 16, 108, 16, 108, 3, 3, 3]
abbrev dktX4_readStatement_2 : List UInt8 := dkwX4_readStatement_2 ++ dktX4_readStatement_3
def dkwX4_readStatement_1 : List UInt8 := [182, 0, 205, 167, 0, 91, 42, 16, 99, 16, 117, 16, 101, 3, 3, 3, 3, 184, 0, 197, 182, 0, 201]
abbrev dktX4_readStatement_1 : List UInt8 := dkwX4_readStatement_1 ++ dktX4_readStatement_2
def dkwX4_readStatement_0 : List UInt8 := [42, 16, 97, 16, 120, 16, 105, 16, 115, 3, 3, 3, 184, 0, 197, 182, 0, 201, 153, 0, 10, 42]
abbrev dktX4_readStatement_0 : List UInt8 := dkwX4_readStatement_0 ++ dktX4_readStatement_1
theorem dksX4_readStatement_0 : cX4_readStatement.data.toList.drop 0 = dktX4_readStatement_0 := by decide +kernel
theorem dksX4_readStatement_1 : cX4_readStatement.data.toList.drop 22 = dktX4_readStatement_1 := dk_seg dksX4_readStatement_0 22 rfl rfl
theorem dksX4_readStatement_2 : cX4_readStatement.data.toList.drop 45 = dktX4_readStatement_2 := dk_seg dksX4_readStatement_1 23 rfl rfl
theorem dksX4_readStatement_3 : cX4_readStatement.data.toList.drop 67 = dktX4_readStatement_3 := dk_seg dksX4_readStatement_2 22 rfl rfl
theorem dksX4_readStatement_4 : cX4_readStatement.data.toList.drop 90 = dktX4_readStatement_4 := dk_seg dksX4_readStatement_3 23 rfl rfl
theorem dksX4_readStatement_5 : cX4_readStatement.data.toList.drop 113 = dktX4_readStatement_5 := dk_seg dksX4_readStatement_4 23 rfl rfl
theorem dksX4_readStatement_6 : cX4_readStatement.data.toList.drop 137 = dktX4_readStatement_6 := dk_seg dksX4_readStatement_5 24 rfl rfl
theorem dX4_readStatement_0 : decode cX4_readStatement 0 = .ok (.aload_n 0, 1) := dk_42 (dk_at dksX4_readStatement_0 0 rfl rfl)
theorem dX4_readStatement_1 : decode cX4_readStatement 1 = .ok (.bipush 97, 2) := dk_16 97 (dk_at dksX4_readStatement_0 1 rfl rfl)
theorem dX4_readStatement_3 : decode cX4_readStatement 3 = .ok (.bipush 120, 2) := dk_16 120 (dk_at dksX4_readStatement_0 3 rfl rfl)
theorem dX4_readStatement_5 : decode cX4_readStatement 5 = .ok (.bipush 105, 2) := dk_16 105 (dk_at dksX4_readStatement_0 5 rfl rfl)
theorem dX4_readStatement_7 : decode cX4_readStatement 7 = .ok (.bipush 115, 2) := dk_16 115 (dk_at dksX4_readStatement_0 7 rfl rfl)
theorem dX4_readStatement_9 : decode cX4_readStatement 9 = .ok (.iconst 0, 1) := dk_3 (dk_at dksX4_readStatement_0 9 rfl rfl)
theorem dX4_readStatement_10 : decode cX4_readStatement 10 = .ok (.iconst 0, 1) := dk_3 (dk_at dksX4_readStatement_0 10 rfl rfl)
theorem dX4_readStatement_11 : decode cX4_readStatement 11 = .ok (.iconst 0, 1) := dk_3 (dk_at dksX4_readStatement_0 11 rfl rfl)
theorem dX4_readStatement_12 : decode cX4_readStatement 12 = .ok (.invokestatic 197, 3) := dk_184 0 197 (dk_at dksX4_readStatement_0 12 rfl rfl)
theorem dX4_readStatement_15 : decode cX4_readStatement 15 = .ok (.invokevirtual 201, 3) := dk_182 0 201 (dk_at dksX4_readStatement_0 15 rfl rfl)
theorem dX4_readStatement_18 : decode cX4_readStatement 18 = .ok (.ifCond .eq 10, 3) := dk_153 0 10 (dk_at dksX4_readStatement_0 18 rfl rfl)
theorem dX4_readStatement_21 : decode cX4_readStatement 21 = .ok (.aload_n 0, 1) := dk_42 (dk_at dksX4_readStatement_0 21 rfl rfl)
theorem dX4_readStatement_22 : decode cX4_readStatement 22 = .ok (.invokevirtual 205, 3) := dk_182 0 205 (dk_at dksX4_readStatement_1 0 rfl rfl)
theorem dX4_readStatement_25 : decode cX4_readStatement 25 = .ok (.goto 91, 3) := dk_167 0 91 (dk_at dksX4_readStatement_1 3 rfl rfl)
theorem dX4_readStatement_28 : decode cX4_readStatement 28 = .ok (.aload_n 0, 1) := dk_42 (dk_at dksX4_readStatement_1 6 rfl rfl)
theorem dX4_readStatement_29 : decode cX4_readStatement 29 = .ok (.bipush 99, 2) := dk_16 99 (dk_at dksX4_readStatement_1 7 rfl rfl)
theorem dX4_readStatement_31 : decode cX4_readStatement 31 = .ok (.bipush 117, 2) := dk_16 117 (dk_at dksX4_readStatement_1 9 rfl rfl)
theorem dX4_readStatement_33 : decode cX4_readStatement 33 = .ok (.bipush 101, 2) := dk_16 101 (dk_at dksX4_readStatement_1 11 rfl rfl)
theorem dX4_readStatement_35 : decode cX4_readStatement 35 = .ok (.iconst 0, 1) := dk_3 (dk_at dksX4_readStatement_1 13 rfl rfl)
theorem dX4_readStatement_36 : decode cX4_readStatement 36 = .ok (.iconst 0, 1) := dk_3 (dk_at dksX4_readStatement_1 14 rfl rfl)
theorem dX4_readStatement_37 : decode cX4_readStatement 37 = .ok (.iconst 0, 1) := dk_3 (dk_at dksX4_readStatement_1 15 rfl rfl)
theorem dX4_readStatement_38 : decode cX4_readStatement 38 = .ok (.iconst 0, 1) := dk_3 (dk_at dksX4_readStatement_1 16 rfl rfl)
theorem dX4_readStatement_39 : decode cX4_readStatement 39 = .ok (.invokestatic 197, 3) := dk_184 0 197 (dk_at dksX4_readStatement_1 17 rfl rfl)
theorem dX4_readStatement_42 : decode cX4_readStatement 42 = .ok (.invokevirtual 201, 3) := dk_182 0 201 (dk_at dksX4_readStatement_1 20 rfl rfl)
theorem dX4_readStatement_45 : decode cX4_readStatement 45 = .ok (.ifCond .eq 10, 3) := dk_153 0 10 (dk_at dksX4_readStatement_2 0 rfl rfl)
theorem dX4_readStatement_48 : decode cX4_readStatement 48 = .ok (.aload_n 0, 1) := dk_42 (dk_at dksX4_readStatement_2 3 rfl rfl)
theorem dX4_readStatement_49 : decode cX4_readStatement 49 = .ok (.invokevirtual 208, 3) := dk_182 0 208 (dk_at dksX4_readStatement_2 4 rfl rfl)
theorem dX4_readStatement_52 : decode cX4_readStatement 52 = .ok (.goto 64, 3) := dk_167 0 64 (dk_at dksX4_readStatement_2 7 rfl rfl)
theorem dX4_readStatement_55 : decode cX4_readStatement 55 = .ok (.aload_n 0, 1) := dk_42 (dk_at dksX4_readStatement_2 10 rfl rfl)
theorem dX4_readStatement_56 : decode cX4_readStatement 56 = .ok (.bipush 119, 2) := dk_16 119 (dk_at dksX4_readStatement_2 11 rfl rfl)
theorem dX4_readStatement_58 : decode cX4_readStatement 58 = .ok (.bipush 97, 2) := dk_16 97 (dk_at dksX4_readStatement_2 13 rfl rfl)
theorem dX4_readStatement_60 : decode cX4_readStatement 60 = .ok (.bipush 108, 2) := dk_16 108 (dk_at dksX4_readStatement_2 15 rfl rfl)
theorem dX4_readStatement_62 : decode cX4_readStatement 62 = .ok (.bipush 108, 2) := dk_16 108 (dk_at dksX4_readStatement_2 17 rfl rfl)
theorem dX4_readStatement_64 : decode cX4_readStatement 64 = .ok (.iconst 0, 1) := dk_3 (dk_at dksX4_readStatement_2 19 rfl rfl)
theorem dX4_readStatement_65 : decode cX4_readStatement 65 = .ok (.iconst 0, 1) := dk_3 (dk_at dksX4_readStatement_2 20 rfl rfl)
theorem dX4_readStatement_66 : decode cX4_readStatement 66 = .ok (.iconst 0, 1) := dk_3 (dk_at dksX4_readStatement_2 21 rfl rfl)
theorem dX4_readStatement_67 : decode cX4_readStatement 67 = .ok (.invokestatic 197, 3) := dk_184 0 197 (dk_at dksX4_readStatement_3 0 rfl rfl)
theorem dX4_readStatement_70 : decode cX4_readStatement 70 = .ok (.invokevirtual 201, 3) := dk_182 0 201 (dk_at dksX4_readStatement_3 3 rfl rfl)
theorem dX4_readStatement_73 : decode cX4_readStatement 73 = .ok (.ifCond .eq 10, 3) := dk_153 0 10 (dk_at dksX4_readStatement_3 6 rfl rfl)
theorem dX4_readStatement_76 : decode cX4_readStatement 76 = .ok (.aload_n 0, 1) := dk_42 (dk_at dksX4_readStatement_3 9 rfl rfl)
theorem dX4_readStatement_77 : decode cX4_readStatement 77 = .ok (.invokevirtual 211, 3) := dk_182 0 211 (dk_at dksX4_readStatement_3 10 rfl rfl)
theorem dX4_readStatement_80 : decode cX4_readStatement 80 = .ok (.goto 36, 3) := dk_167 0 36 (dk_at dksX4_readStatement_3 13 rfl rfl)
theorem dX4_readStatement_83 : decode cX4_readStatement 83 = .ok (.aload_n 0, 1) := dk_42 (dk_at dksX4_readStatement_3 16 rfl rfl)
theorem dX4_readStatement_84 : decode cX4_readStatement 84 = .ok (.bipush 112, 2) := dk_16 112 (dk_at dksX4_readStatement_3 17 rfl rfl)
theorem dX4_readStatement_86 : decode cX4_readStatement 86 = .ok (.bipush 97, 2) := dk_16 97 (dk_at dksX4_readStatement_3 19 rfl rfl)
theorem dX4_readStatement_88 : decode cX4_readStatement 88 = .ok (.bipush 115, 2) := dk_16 115 (dk_at dksX4_readStatement_3 21 rfl rfl)
theorem dX4_readStatement_90 : decode cX4_readStatement 90 = .ok (.bipush 115, 2) := dk_16 115 (dk_at dksX4_readStatement_4 0 rfl rfl)
theorem dX4_readStatement_92 : decode cX4_readStatement 92 = .ok (.iconst 0, 1) := dk_3 (dk_at dksX4_readStatement_4 2 rfl rfl)
theorem dX4_readStatement_93 : decode cX4_readStatement 93 = .ok (.iconst 0, 1) := dk_3 (dk_at dksX4_readStatement_4 3 rfl rfl)
theorem dX4_readStatement_94 : decode cX4_readStatement 94 = .ok (.iconst 0, 1) := dk_3 (dk_at dksX4_readStatement_4 4 rfl rfl)
theorem dX4_readStatement_95 : decode cX4_readStatement 95 = .ok (.invokestatic 197, 3) := dk_184 0 197 (dk_at dksX4_readStatement_4 5 rfl rfl)
theorem dX4_readStatement_98 : decode cX4_readStatement 98 = .ok (.invokevirtual 201, 3) := dk_182 0 201 (dk_at dksX4_readStatement_4 8 rfl rfl)
theorem dX4_readStatement_101 : decode cX4_readStatement 101 = .ok (.ifCond .eq 10, 3) := dk_153 0 10 (dk_at dksX4_readStatement_4 11 rfl rfl)
theorem dX4_readStatement_104 : decode cX4_readStatement 104 = .ok (.aload_n 0, 1) := dk_42 (dk_at dksX4_readStatement_4 14 rfl rfl)
theorem dX4_readStatement_105 : decode cX4_readStatement 105 = .ok (.invokevirtual 214, 3) := dk_182 0 214 (dk_at dksX4_readStatement_4 15 rfl rfl)
theorem dX4_readStatement_108 : decode cX4_readStatement 108 = .ok (.goto 8, 3) := dk_167 0 8 (dk_at dksX4_readStatement_4 18 rfl rfl)
theorem dX4_readStatement_111 : decode cX4_readStatement 111 = .ok (.aload_n 0, 1) := dk_42 (dk_at dksX4_readStatement_4 21 rfl rfl)
theorem dX4_readStatement_112 : decode cX4_readStatement 112 = .ok (.iconst 0, 1) := dk_3 (dk_at dksX4_readStatement_4 22 rfl rfl)
theorem dX4_readStatement_113 : decode cX4_readStatement 113 = .ok (.invokevirtual 178, 3) := dk_182 0 178 (dk_at dksX4_readStatement_5 0 rfl rfl)
theorem dX4_readStatement_116 : decode cX4_readStatement 116 = .ok (.aload_n 0, 1) := dk_42 (dk_at dksX4_readStatement_5 3 rfl rfl)
theorem dX4_readStatement_117 : decode cX4_readStatement 117 = .ok (.aload_n 0, 1) := dk_42 (dk_at dksX4_readStatement_5 4 rfl rfl)
theorem dX4_readStatement_118 : decode cX4_readStatement 118 = .ok (.getfield 126, 3) := dk_180 0 126 (dk_at dksX4_readStatement_5 5 rfl rfl)
theorem dX4_readStatement_121 : decode cX4_readStatement 121 = .ok (.iconst 3, 1) := dk_6 (dk_at dksX4_readStatement_5 8 rfl rfl)
theorem dX4_readStatement_122 : decode cX4_readStatement 122 = .ok (.if_icmp .ne 7, 3) := dk_160 0 7 (dk_at dksX4_readStatement_5 9 rfl rfl)
theorem dX4_readStatement_125 : decode cX4_readStatement 125 = .ok (.iconst 1, 1) := dk_4 (dk_at dksX4_readStatement_5 12 rfl rfl)
theorem dX4_readStatement_126 : decode cX4_readStatement 126 = .ok (.goto 4, 3) := dk_167 0 4 (dk_at dksX4_readStatement_5 13 rfl rfl)
theorem dX4_readStatement_129 : decode cX4_readStatement 129 = .ok (.iconst 0, 1) := dk_3 (dk_at dksX4_readStatement_5 16 rfl rfl)
theorem dX4_readStatement_130 : decode cX4_readStatement 130 = .ok (.invokevirtual 178, 3) := dk_182 0 178 (dk_at dksX4_readStatement_5 17 rfl rfl)
theorem dX4_readStatement_133 : decode cX4_readStatement 133 = .ok (.aload_n 0, 1) := dk_42 (dk_at dksX4_readStatement_5 20 rfl rfl)
theorem dX4_readStatement_134 : decode cX4_readStatement 134 = .ok (.invokevirtual 182, 3) := dk_182 0 182 (dk_at dksX4_readStatement_5 21 rfl rfl)
theorem dX4_readStatement_137 : decode cX4_readStatement 137 = .ok (.return_, 1) := dk_177 (dk_at dksX4_readStatement_6 0 rfl rfl)
abbrev cX4_spelled : ByteArray := prog_17_method_32_code
def yX4_spelled : MethodName := ⟨RX4, "spelled", "(IIIIIII)J"⟩
def dkwX4_spelled_1 : List UInt8 := [184, 0, 159, 21, 5, 184, 0, 159, 21, 6, 184, 0, 159, 173]
abbrev dktX4_spelled_1 : List UInt8 := dkwX4_spelled_1 ++ []
def dkwX4_spelled_0 : List UInt8 := [9, 26, 184, 0, 159, 27, 184, 0, 159, 28, 184, 0, 159, 29, 184, 0, 159, 55, 7, 22, 7, 21, 4]
abbrev dktX4_spelled_0 : List UInt8 := dkwX4_spelled_0 ++ dktX4_spelled_1
theorem dksX4_spelled_0 : cX4_spelled.data.toList.drop 0 = dktX4_spelled_0 := by decide +kernel
theorem dksX4_spelled_1 : cX4_spelled.data.toList.drop 23 = dktX4_spelled_1 := dk_seg dksX4_spelled_0 23 rfl rfl
theorem dX4_spelled_0 : decode cX4_spelled 0 = .ok (.lconst 0, 1) := dk_9 (dk_at dksX4_spelled_0 0 rfl rfl)
theorem dX4_spelled_1 : decode cX4_spelled 1 = .ok (.iload_n 0, 1) := dk_26 (dk_at dksX4_spelled_0 1 rfl rfl)
theorem dX4_spelled_2 : decode cX4_spelled 2 = .ok (.invokestatic 159, 3) := dk_184 0 159 (dk_at dksX4_spelled_0 2 rfl rfl)
theorem dX4_spelled_5 : decode cX4_spelled 5 = .ok (.iload_n 1, 1) := dk_27 (dk_at dksX4_spelled_0 5 rfl rfl)
theorem dX4_spelled_6 : decode cX4_spelled 6 = .ok (.invokestatic 159, 3) := dk_184 0 159 (dk_at dksX4_spelled_0 6 rfl rfl)
theorem dX4_spelled_9 : decode cX4_spelled 9 = .ok (.iload_n 2, 1) := dk_28 (dk_at dksX4_spelled_0 9 rfl rfl)
theorem dX4_spelled_10 : decode cX4_spelled 10 = .ok (.invokestatic 159, 3) := dk_184 0 159 (dk_at dksX4_spelled_0 10 rfl rfl)
theorem dX4_spelled_13 : decode cX4_spelled 13 = .ok (.iload_n 3, 1) := dk_29 (dk_at dksX4_spelled_0 13 rfl rfl)
theorem dX4_spelled_14 : decode cX4_spelled 14 = .ok (.invokestatic 159, 3) := dk_184 0 159 (dk_at dksX4_spelled_0 14 rfl rfl)
theorem dX4_spelled_17 : decode cX4_spelled 17 = .ok (.lstore 7, 2) := dk_55 7 (dk_at dksX4_spelled_0 17 rfl rfl)
theorem dX4_spelled_19 : decode cX4_spelled 19 = .ok (.lload 7, 2) := dk_22 7 (dk_at dksX4_spelled_0 19 rfl rfl)
theorem dX4_spelled_21 : decode cX4_spelled 21 = .ok (.iload 4, 2) := dk_21 4 (dk_at dksX4_spelled_0 21 rfl rfl)
theorem dX4_spelled_23 : decode cX4_spelled 23 = .ok (.invokestatic 159, 3) := dk_184 0 159 (dk_at dksX4_spelled_1 0 rfl rfl)
theorem dX4_spelled_26 : decode cX4_spelled 26 = .ok (.iload 5, 2) := dk_21 5 (dk_at dksX4_spelled_1 3 rfl rfl)
theorem dX4_spelled_28 : decode cX4_spelled 28 = .ok (.invokestatic 159, 3) := dk_184 0 159 (dk_at dksX4_spelled_1 5 rfl rfl)
theorem dX4_spelled_31 : decode cX4_spelled 31 = .ok (.iload 6, 2) := dk_21 6 (dk_at dksX4_spelled_1 8 rfl rfl)
theorem dX4_spelled_33 : decode cX4_spelled 33 = .ok (.invokestatic 159, 3) := dk_184 0 159 (dk_at dksX4_spelled_1 10 rfl rfl)
theorem dX4_spelled_36 : decode cX4_spelled 36 = .ok (.lreturn, 1) := dk_173 (dk_at dksX4_spelled_1 13 rfl rfl)
abbrev cX4_more : ByteArray := prog_17_method_31_code
def yX4_more : MethodName := ⟨RX4, "more", "(JI)J"⟩
def dkwX4_more_0 : List UInt8 := [28, 154, 0, 7, 30, 167, 0, 15, 20, 0, 122, 30, 105, 28, 133, 97, 20, 0, 157, 101, 173]
abbrev dktX4_more_0 : List UInt8 := dkwX4_more_0 ++ []
theorem dksX4_more_0 : cX4_more.data.toList.drop 0 = dktX4_more_0 := by decide +kernel
theorem dX4_more_0 : decode cX4_more 0 = .ok (.iload_n 2, 1) := dk_28 (dk_at dksX4_more_0 0 rfl rfl)
theorem dX4_more_1 : decode cX4_more 1 = .ok (.ifCond .ne 7, 3) := dk_154 0 7 (dk_at dksX4_more_0 1 rfl rfl)
theorem dX4_more_4 : decode cX4_more 4 = .ok (.lload_n 0, 1) := dk_30 (dk_at dksX4_more_0 4 rfl rfl)
theorem dX4_more_5 : decode cX4_more 5 = .ok (.goto 15, 3) := dk_167 0 15 (dk_at dksX4_more_0 5 rfl rfl)
theorem dX4_more_8 : decode cX4_more 8 = .ok (.ldc2_w 122, 3) := dk_20 0 122 (dk_at dksX4_more_0 8 rfl rfl)
theorem dX4_more_11 : decode cX4_more 11 = .ok (.lload_n 0, 1) := dk_30 (dk_at dksX4_more_0 11 rfl rfl)
theorem dX4_more_12 : decode cX4_more 12 = .ok (.lmul, 1) := dk_105 (dk_at dksX4_more_0 12 rfl rfl)
theorem dX4_more_13 : decode cX4_more 13 = .ok (.iload_n 2, 1) := dk_28 (dk_at dksX4_more_0 13 rfl rfl)
theorem dX4_more_14 : decode cX4_more 14 = .ok (.i2l, 1) := dk_133 (dk_at dksX4_more_0 14 rfl rfl)
theorem dX4_more_15 : decode cX4_more 15 = .ok (.ladd, 1) := dk_97 (dk_at dksX4_more_0 15 rfl rfl)
theorem dX4_more_16 : decode cX4_more 16 = .ok (.ldc2_w 157, 3) := dk_20 0 157 (dk_at dksX4_more_0 16 rfl rfl)
theorem dX4_more_19 : decode cX4_more 19 = .ok (.lsub, 1) := dk_101 (dk_at dksX4_more_0 19 rfl rfl)
theorem dX4_more_20 : decode cX4_more 20 = .ok (.lreturn, 1) := dk_173 (dk_at dksX4_more_0 20 rfl rfl)
abbrev cX4_isWord : ByteArray := prog_17_method_33_code
def yX4_isWord : MethodName := ⟨RX4, "isWord", "(J)Z"⟩
def dkwX4_isWord_0 : List UInt8 := [42, 180, 0, 126, 4, 160, 0, 16, 42, 180, 0, 111, 31, 148, 154, 0, 7, 4, 167, 0, 4, 3, 172]
abbrev dktX4_isWord_0 : List UInt8 := dkwX4_isWord_0 ++ []
theorem dksX4_isWord_0 : cX4_isWord.data.toList.drop 0 = dktX4_isWord_0 := by decide +kernel
theorem dX4_isWord_0 : decode cX4_isWord 0 = .ok (.aload_n 0, 1) := dk_42 (dk_at dksX4_isWord_0 0 rfl rfl)
theorem dX4_isWord_1 : decode cX4_isWord 1 = .ok (.getfield 126, 3) := dk_180 0 126 (dk_at dksX4_isWord_0 1 rfl rfl)
theorem dX4_isWord_4 : decode cX4_isWord 4 = .ok (.iconst 1, 1) := dk_4 (dk_at dksX4_isWord_0 4 rfl rfl)
theorem dX4_isWord_5 : decode cX4_isWord 5 = .ok (.if_icmp .ne 16, 3) := dk_160 0 16 (dk_at dksX4_isWord_0 5 rfl rfl)
theorem dX4_isWord_8 : decode cX4_isWord 8 = .ok (.aload_n 0, 1) := dk_42 (dk_at dksX4_isWord_0 8 rfl rfl)
theorem dX4_isWord_9 : decode cX4_isWord 9 = .ok (.getfield 111, 3) := dk_180 0 111 (dk_at dksX4_isWord_0 9 rfl rfl)
theorem dX4_isWord_12 : decode cX4_isWord 12 = .ok (.lload_n 1, 1) := dk_31 (dk_at dksX4_isWord_0 12 rfl rfl)
theorem dX4_isWord_13 : decode cX4_isWord 13 = .ok (.lcmp, 1) := dk_148 (dk_at dksX4_isWord_0 13 rfl rfl)
theorem dX4_isWord_14 : decode cX4_isWord 14 = .ok (.ifCond .ne 7, 3) := dk_154 0 7 (dk_at dksX4_isWord_0 14 rfl rfl)
theorem dX4_isWord_17 : decode cX4_isWord 17 = .ok (.iconst 1, 1) := dk_4 (dk_at dksX4_isWord_0 17 rfl rfl)
theorem dX4_isWord_18 : decode cX4_isWord 18 = .ok (.goto 4, 3) := dk_167 0 4 (dk_at dksX4_isWord_0 18 rfl rfl)
theorem dX4_isWord_21 : decode cX4_isWord 21 = .ok (.iconst 0, 1) := dk_3 (dk_at dksX4_isWord_0 21 rfl rfl)
theorem dX4_isWord_22 : decode cX4_isWord 22 = .ok (.ireturn, 1) := dk_172 (dk_at dksX4_isWord_0 22 rfl rfl)
abbrev cX4_readAxis : ByteArray := prog_17_method_39_code
def yX4_readAxis : MethodName := ⟨RX4, "readAxis", "()V"⟩
def dkwX4_readAxis_8 : List UInt8 := [180, 0, 163, 4, 96, 181, 0, 163, 177]
abbrev dktX4_readAxis_8 : List UInt8 := dkwX4_readAxis_8 ++ []
def dkwX4_readAxis_7 : List UInt8 := [17, 0, 186, 27, 96, 21, 4, 79, 42, 180, 0, 7, 17, 0, 190, 27, 96, 21, 5, 79, 42, 89]
abbrev dktX4_readAxis_7 : List UInt8 := dkwX4_readAxis_7 ++ dktX4_readAxis_8
def dkwX4_readAxis_6 : List UInt8 := [27, 104, 4, 96, 29, 79, 42, 180, 0, 34, 6, 27, 104, 5, 96, 21, 6, 79, 42, 180, 0, 7]
abbrev dktX4_readAxis_6 : List UInt8 := dkwX4_readAxis_6 ++ dktX4_readAxis_7
def dkwX4_readAxis_5 : List UInt8 := [54, 6, 42, 182, 0, 150, 154, 0, 4, 177, 42, 180, 0, 34, 6, 27, 104, 28, 79, 42, 180, 0, 34, 6]
abbrev dktX4_readAxis_5 : List UInt8 := dkwX4_readAxis_5 ++ dktX4_readAxis_6
def dkwX4_readAxis_4 : List UInt8 := [4, 16, 99, 182, 0, 191, 54, 4, 42, 4, 16, 20, 182, 0, 191, 54, 5, 42, 28, 29, 182, 0, 188]
abbrev dktX4_readAxis_4 : List UInt8 := dkwX4_readAxis_4 ++ dktX4_readAxis_5
def dkwX4_readAxis_3 : List UInt8 := [182, 0, 154, 42, 17, 216, 241, 17, 39, 15, 182, 0, 188, 61, 42, 28, 17, 39, 15, 182, 0, 188, 62, 42]
abbrev dktX4_readAxis_3 : List UInt8 := dkwX4_readAxis_3 ++ dktX4_readAxis_4
def dkwX4_readAxis_2 : List UInt8 := [182, 0, 150, 154, 0, 4, 177, 42, 180, 0, 163, 60, 42, 180, 0, 31, 27, 42, 180, 0, 111, 80, 42]
abbrev dktX4_readAxis_2 : List UInt8 := dkwX4_readAxis_2 ++ dktX4_readAxis_3
def dkwX4_readAxis_1 : List UInt8 := [180, 0, 126, 4, 160, 0, 15, 42, 182, 0, 185, 2, 160, 0, 7, 4, 167, 0, 4, 3, 182, 0, 178, 42]
abbrev dktX4_readAxis_1 : List UInt8 := dkwX4_readAxis_1 ++ dktX4_readAxis_2
def dkwX4_readAxis_0 : List UInt8 := [42, 42, 180, 0, 163, 7, 162, 0, 7, 4, 167, 0, 4, 3, 182, 0, 178, 42, 182, 0, 182, 42, 42]
abbrev dktX4_readAxis_0 : List UInt8 := dkwX4_readAxis_0 ++ dktX4_readAxis_1
theorem dksX4_readAxis_0 : cX4_readAxis.data.toList.drop 0 = dktX4_readAxis_0 := by decide +kernel
theorem dksX4_readAxis_1 : cX4_readAxis.data.toList.drop 23 = dktX4_readAxis_1 := dk_seg dksX4_readAxis_0 23 rfl rfl
theorem dksX4_readAxis_2 : cX4_readAxis.data.toList.drop 47 = dktX4_readAxis_2 := dk_seg dksX4_readAxis_1 24 rfl rfl
theorem dksX4_readAxis_3 : cX4_readAxis.data.toList.drop 70 = dktX4_readAxis_3 := dk_seg dksX4_readAxis_2 23 rfl rfl
theorem dksX4_readAxis_4 : cX4_readAxis.data.toList.drop 94 = dktX4_readAxis_4 := dk_seg dksX4_readAxis_3 24 rfl rfl
theorem dksX4_readAxis_5 : cX4_readAxis.data.toList.drop 117 = dktX4_readAxis_5 := dk_seg dksX4_readAxis_4 23 rfl rfl
theorem dksX4_readAxis_6 : cX4_readAxis.data.toList.drop 141 = dktX4_readAxis_6 := dk_seg dksX4_readAxis_5 24 rfl rfl
theorem dksX4_readAxis_7 : cX4_readAxis.data.toList.drop 163 = dktX4_readAxis_7 := dk_seg dksX4_readAxis_6 22 rfl rfl
theorem dksX4_readAxis_8 : cX4_readAxis.data.toList.drop 185 = dktX4_readAxis_8 := dk_seg dksX4_readAxis_7 22 rfl rfl
theorem dX4_readAxis_0 : decode cX4_readAxis 0 = .ok (.aload_n 0, 1) := dk_42 (dk_at dksX4_readAxis_0 0 rfl rfl)
theorem dX4_readAxis_1 : decode cX4_readAxis 1 = .ok (.aload_n 0, 1) := dk_42 (dk_at dksX4_readAxis_0 1 rfl rfl)
theorem dX4_readAxis_2 : decode cX4_readAxis 2 = .ok (.getfield 163, 3) := dk_180 0 163 (dk_at dksX4_readAxis_0 2 rfl rfl)
theorem dX4_readAxis_5 : decode cX4_readAxis 5 = .ok (.iconst 4, 1) := dk_7 (dk_at dksX4_readAxis_0 5 rfl rfl)
theorem dX4_readAxis_6 : decode cX4_readAxis 6 = .ok (.if_icmp .ge 7, 3) := dk_162 0 7 (dk_at dksX4_readAxis_0 6 rfl rfl)
theorem dX4_readAxis_9 : decode cX4_readAxis 9 = .ok (.iconst 1, 1) := dk_4 (dk_at dksX4_readAxis_0 9 rfl rfl)
theorem dX4_readAxis_10 : decode cX4_readAxis 10 = .ok (.goto 4, 3) := dk_167 0 4 (dk_at dksX4_readAxis_0 10 rfl rfl)
theorem dX4_readAxis_13 : decode cX4_readAxis 13 = .ok (.iconst 0, 1) := dk_3 (dk_at dksX4_readAxis_0 13 rfl rfl)
theorem dX4_readAxis_14 : decode cX4_readAxis 14 = .ok (.invokevirtual 178, 3) := dk_182 0 178 (dk_at dksX4_readAxis_0 14 rfl rfl)
theorem dX4_readAxis_17 : decode cX4_readAxis 17 = .ok (.aload_n 0, 1) := dk_42 (dk_at dksX4_readAxis_0 17 rfl rfl)
theorem dX4_readAxis_18 : decode cX4_readAxis 18 = .ok (.invokevirtual 182, 3) := dk_182 0 182 (dk_at dksX4_readAxis_0 18 rfl rfl)
theorem dX4_readAxis_21 : decode cX4_readAxis 21 = .ok (.aload_n 0, 1) := dk_42 (dk_at dksX4_readAxis_0 21 rfl rfl)
theorem dX4_readAxis_22 : decode cX4_readAxis 22 = .ok (.aload_n 0, 1) := dk_42 (dk_at dksX4_readAxis_0 22 rfl rfl)
theorem dX4_readAxis_23 : decode cX4_readAxis 23 = .ok (.getfield 126, 3) := dk_180 0 126 (dk_at dksX4_readAxis_1 0 rfl rfl)
theorem dX4_readAxis_26 : decode cX4_readAxis 26 = .ok (.iconst 1, 1) := dk_4 (dk_at dksX4_readAxis_1 3 rfl rfl)
theorem dX4_readAxis_27 : decode cX4_readAxis 27 = .ok (.if_icmp .ne 15, 3) := dk_160 0 15 (dk_at dksX4_readAxis_1 4 rfl rfl)
theorem dX4_readAxis_30 : decode cX4_readAxis 30 = .ok (.aload_n 0, 1) := dk_42 (dk_at dksX4_readAxis_1 7 rfl rfl)
theorem dX4_readAxis_31 : decode cX4_readAxis 31 = .ok (.invokevirtual 185, 3) := dk_182 0 185 (dk_at dksX4_readAxis_1 8 rfl rfl)
theorem dX4_readAxis_34 : decode cX4_readAxis 34 = .ok (.iconst (-1), 1) := dk_2 (dk_at dksX4_readAxis_1 11 rfl rfl)
theorem dX4_readAxis_35 : decode cX4_readAxis 35 = .ok (.if_icmp .ne 7, 3) := dk_160 0 7 (dk_at dksX4_readAxis_1 12 rfl rfl)
theorem dX4_readAxis_38 : decode cX4_readAxis 38 = .ok (.iconst 1, 1) := dk_4 (dk_at dksX4_readAxis_1 15 rfl rfl)
theorem dX4_readAxis_39 : decode cX4_readAxis 39 = .ok (.goto 4, 3) := dk_167 0 4 (dk_at dksX4_readAxis_1 16 rfl rfl)
theorem dX4_readAxis_42 : decode cX4_readAxis 42 = .ok (.iconst 0, 1) := dk_3 (dk_at dksX4_readAxis_1 19 rfl rfl)
theorem dX4_readAxis_43 : decode cX4_readAxis 43 = .ok (.invokevirtual 178, 3) := dk_182 0 178 (dk_at dksX4_readAxis_1 20 rfl rfl)
theorem dX4_readAxis_46 : decode cX4_readAxis 46 = .ok (.aload_n 0, 1) := dk_42 (dk_at dksX4_readAxis_1 23 rfl rfl)
theorem dX4_readAxis_47 : decode cX4_readAxis 47 = .ok (.invokevirtual 150, 3) := dk_182 0 150 (dk_at dksX4_readAxis_2 0 rfl rfl)
theorem dX4_readAxis_50 : decode cX4_readAxis 50 = .ok (.ifCond .ne 4, 3) := dk_154 0 4 (dk_at dksX4_readAxis_2 3 rfl rfl)
theorem dX4_readAxis_53 : decode cX4_readAxis 53 = .ok (.return_, 1) := dk_177 (dk_at dksX4_readAxis_2 6 rfl rfl)
theorem dX4_readAxis_54 : decode cX4_readAxis 54 = .ok (.aload_n 0, 1) := dk_42 (dk_at dksX4_readAxis_2 7 rfl rfl)
theorem dX4_readAxis_55 : decode cX4_readAxis 55 = .ok (.getfield 163, 3) := dk_180 0 163 (dk_at dksX4_readAxis_2 8 rfl rfl)
theorem dX4_readAxis_58 : decode cX4_readAxis 58 = .ok (.istore_n 1, 1) := dk_60 (dk_at dksX4_readAxis_2 11 rfl rfl)
theorem dX4_readAxis_59 : decode cX4_readAxis 59 = .ok (.aload_n 0, 1) := dk_42 (dk_at dksX4_readAxis_2 12 rfl rfl)
theorem dX4_readAxis_60 : decode cX4_readAxis 60 = .ok (.getfield 31, 3) := dk_180 0 31 (dk_at dksX4_readAxis_2 13 rfl rfl)
theorem dX4_readAxis_63 : decode cX4_readAxis 63 = .ok (.iload_n 1, 1) := dk_27 (dk_at dksX4_readAxis_2 16 rfl rfl)
theorem dX4_readAxis_64 : decode cX4_readAxis 64 = .ok (.aload_n 0, 1) := dk_42 (dk_at dksX4_readAxis_2 17 rfl rfl)
theorem dX4_readAxis_65 : decode cX4_readAxis 65 = .ok (.getfield 111, 3) := dk_180 0 111 (dk_at dksX4_readAxis_2 18 rfl rfl)
theorem dX4_readAxis_68 : decode cX4_readAxis 68 = .ok (.lastore, 1) := dk_80 (dk_at dksX4_readAxis_2 21 rfl rfl)
theorem dX4_readAxis_69 : decode cX4_readAxis 69 = .ok (.aload_n 0, 1) := dk_42 (dk_at dksX4_readAxis_2 22 rfl rfl)
theorem dX4_readAxis_70 : decode cX4_readAxis 70 = .ok (.invokevirtual 154, 3) := dk_182 0 154 (dk_at dksX4_readAxis_3 0 rfl rfl)
theorem dX4_readAxis_73 : decode cX4_readAxis 73 = .ok (.aload_n 0, 1) := dk_42 (dk_at dksX4_readAxis_3 3 rfl rfl)
theorem dX4_readAxis_74 : decode cX4_readAxis 74 = .ok (.sipush (-9999), 3) := dk_17 216 241 (dk_at dksX4_readAxis_3 4 rfl rfl)
theorem dX4_readAxis_77 : decode cX4_readAxis 77 = .ok (.sipush 9999, 3) := dk_17 39 15 (dk_at dksX4_readAxis_3 7 rfl rfl)
theorem dX4_readAxis_80 : decode cX4_readAxis 80 = .ok (.invokevirtual 188, 3) := dk_182 0 188 (dk_at dksX4_readAxis_3 10 rfl rfl)
theorem dX4_readAxis_83 : decode cX4_readAxis 83 = .ok (.istore_n 2, 1) := dk_61 (dk_at dksX4_readAxis_3 13 rfl rfl)
theorem dX4_readAxis_84 : decode cX4_readAxis 84 = .ok (.aload_n 0, 1) := dk_42 (dk_at dksX4_readAxis_3 14 rfl rfl)
theorem dX4_readAxis_85 : decode cX4_readAxis 85 = .ok (.iload_n 2, 1) := dk_28 (dk_at dksX4_readAxis_3 15 rfl rfl)
theorem dX4_readAxis_86 : decode cX4_readAxis 86 = .ok (.sipush 9999, 3) := dk_17 39 15 (dk_at dksX4_readAxis_3 16 rfl rfl)
theorem dX4_readAxis_89 : decode cX4_readAxis 89 = .ok (.invokevirtual 188, 3) := dk_182 0 188 (dk_at dksX4_readAxis_3 19 rfl rfl)
theorem dX4_readAxis_92 : decode cX4_readAxis 92 = .ok (.istore_n 3, 1) := dk_62 (dk_at dksX4_readAxis_3 22 rfl rfl)
theorem dX4_readAxis_93 : decode cX4_readAxis 93 = .ok (.aload_n 0, 1) := dk_42 (dk_at dksX4_readAxis_3 23 rfl rfl)
theorem dX4_readAxis_94 : decode cX4_readAxis 94 = .ok (.iconst 1, 1) := dk_4 (dk_at dksX4_readAxis_4 0 rfl rfl)
theorem dX4_readAxis_95 : decode cX4_readAxis 95 = .ok (.bipush 99, 2) := dk_16 99 (dk_at dksX4_readAxis_4 1 rfl rfl)
theorem dX4_readAxis_97 : decode cX4_readAxis 97 = .ok (.invokevirtual 191, 3) := dk_182 0 191 (dk_at dksX4_readAxis_4 3 rfl rfl)
theorem dX4_readAxis_100 : decode cX4_readAxis 100 = .ok (.istore 4, 2) := dk_54 4 (dk_at dksX4_readAxis_4 6 rfl rfl)
theorem dX4_readAxis_102 : decode cX4_readAxis 102 = .ok (.aload_n 0, 1) := dk_42 (dk_at dksX4_readAxis_4 8 rfl rfl)
theorem dX4_readAxis_103 : decode cX4_readAxis 103 = .ok (.iconst 1, 1) := dk_4 (dk_at dksX4_readAxis_4 9 rfl rfl)
theorem dX4_readAxis_104 : decode cX4_readAxis 104 = .ok (.bipush 20, 2) := dk_16 20 (dk_at dksX4_readAxis_4 10 rfl rfl)
theorem dX4_readAxis_106 : decode cX4_readAxis 106 = .ok (.invokevirtual 191, 3) := dk_182 0 191 (dk_at dksX4_readAxis_4 12 rfl rfl)
theorem dX4_readAxis_109 : decode cX4_readAxis 109 = .ok (.istore 5, 2) := dk_54 5 (dk_at dksX4_readAxis_4 15 rfl rfl)
theorem dX4_readAxis_111 : decode cX4_readAxis 111 = .ok (.aload_n 0, 1) := dk_42 (dk_at dksX4_readAxis_4 17 rfl rfl)
theorem dX4_readAxis_112 : decode cX4_readAxis 112 = .ok (.iload_n 2, 1) := dk_28 (dk_at dksX4_readAxis_4 18 rfl rfl)
theorem dX4_readAxis_113 : decode cX4_readAxis 113 = .ok (.iload_n 3, 1) := dk_29 (dk_at dksX4_readAxis_4 19 rfl rfl)
theorem dX4_readAxis_114 : decode cX4_readAxis 114 = .ok (.invokevirtual 188, 3) := dk_182 0 188 (dk_at dksX4_readAxis_4 20 rfl rfl)
theorem dX4_readAxis_117 : decode cX4_readAxis 117 = .ok (.istore 6, 2) := dk_54 6 (dk_at dksX4_readAxis_5 0 rfl rfl)
theorem dX4_readAxis_119 : decode cX4_readAxis 119 = .ok (.aload_n 0, 1) := dk_42 (dk_at dksX4_readAxis_5 2 rfl rfl)
theorem dX4_readAxis_120 : decode cX4_readAxis 120 = .ok (.invokevirtual 150, 3) := dk_182 0 150 (dk_at dksX4_readAxis_5 3 rfl rfl)
theorem dX4_readAxis_123 : decode cX4_readAxis 123 = .ok (.ifCond .ne 4, 3) := dk_154 0 4 (dk_at dksX4_readAxis_5 6 rfl rfl)
theorem dX4_readAxis_126 : decode cX4_readAxis 126 = .ok (.return_, 1) := dk_177 (dk_at dksX4_readAxis_5 9 rfl rfl)
theorem dX4_readAxis_127 : decode cX4_readAxis 127 = .ok (.aload_n 0, 1) := dk_42 (dk_at dksX4_readAxis_5 10 rfl rfl)
theorem dX4_readAxis_128 : decode cX4_readAxis 128 = .ok (.getfield 34, 3) := dk_180 0 34 (dk_at dksX4_readAxis_5 11 rfl rfl)
theorem dX4_readAxis_131 : decode cX4_readAxis 131 = .ok (.iconst 3, 1) := dk_6 (dk_at dksX4_readAxis_5 14 rfl rfl)
theorem dX4_readAxis_132 : decode cX4_readAxis 132 = .ok (.iload_n 1, 1) := dk_27 (dk_at dksX4_readAxis_5 15 rfl rfl)
theorem dX4_readAxis_133 : decode cX4_readAxis 133 = .ok (.imul, 1) := dk_104 (dk_at dksX4_readAxis_5 16 rfl rfl)
theorem dX4_readAxis_134 : decode cX4_readAxis 134 = .ok (.iload_n 2, 1) := dk_28 (dk_at dksX4_readAxis_5 17 rfl rfl)
theorem dX4_readAxis_135 : decode cX4_readAxis 135 = .ok (.iastore, 1) := dk_79 (dk_at dksX4_readAxis_5 18 rfl rfl)
theorem dX4_readAxis_136 : decode cX4_readAxis 136 = .ok (.aload_n 0, 1) := dk_42 (dk_at dksX4_readAxis_5 19 rfl rfl)
theorem dX4_readAxis_137 : decode cX4_readAxis 137 = .ok (.getfield 34, 3) := dk_180 0 34 (dk_at dksX4_readAxis_5 20 rfl rfl)
theorem dX4_readAxis_140 : decode cX4_readAxis 140 = .ok (.iconst 3, 1) := dk_6 (dk_at dksX4_readAxis_5 23 rfl rfl)
theorem dX4_readAxis_141 : decode cX4_readAxis 141 = .ok (.iload_n 1, 1) := dk_27 (dk_at dksX4_readAxis_6 0 rfl rfl)
theorem dX4_readAxis_142 : decode cX4_readAxis 142 = .ok (.imul, 1) := dk_104 (dk_at dksX4_readAxis_6 1 rfl rfl)
theorem dX4_readAxis_143 : decode cX4_readAxis 143 = .ok (.iconst 1, 1) := dk_4 (dk_at dksX4_readAxis_6 2 rfl rfl)
theorem dX4_readAxis_144 : decode cX4_readAxis 144 = .ok (.iadd, 1) := dk_96 (dk_at dksX4_readAxis_6 3 rfl rfl)
theorem dX4_readAxis_145 : decode cX4_readAxis 145 = .ok (.iload_n 3, 1) := dk_29 (dk_at dksX4_readAxis_6 4 rfl rfl)
theorem dX4_readAxis_146 : decode cX4_readAxis 146 = .ok (.iastore, 1) := dk_79 (dk_at dksX4_readAxis_6 5 rfl rfl)
theorem dX4_readAxis_147 : decode cX4_readAxis 147 = .ok (.aload_n 0, 1) := dk_42 (dk_at dksX4_readAxis_6 6 rfl rfl)
theorem dX4_readAxis_148 : decode cX4_readAxis 148 = .ok (.getfield 34, 3) := dk_180 0 34 (dk_at dksX4_readAxis_6 7 rfl rfl)
theorem dX4_readAxis_151 : decode cX4_readAxis 151 = .ok (.iconst 3, 1) := dk_6 (dk_at dksX4_readAxis_6 10 rfl rfl)
theorem dX4_readAxis_152 : decode cX4_readAxis 152 = .ok (.iload_n 1, 1) := dk_27 (dk_at dksX4_readAxis_6 11 rfl rfl)
theorem dX4_readAxis_153 : decode cX4_readAxis 153 = .ok (.imul, 1) := dk_104 (dk_at dksX4_readAxis_6 12 rfl rfl)
theorem dX4_readAxis_154 : decode cX4_readAxis 154 = .ok (.iconst 2, 1) := dk_5 (dk_at dksX4_readAxis_6 13 rfl rfl)
theorem dX4_readAxis_155 : decode cX4_readAxis 155 = .ok (.iadd, 1) := dk_96 (dk_at dksX4_readAxis_6 14 rfl rfl)
theorem dX4_readAxis_156 : decode cX4_readAxis 156 = .ok (.iload 6, 2) := dk_21 6 (dk_at dksX4_readAxis_6 15 rfl rfl)
theorem dX4_readAxis_158 : decode cX4_readAxis 158 = .ok (.iastore, 1) := dk_79 (dk_at dksX4_readAxis_6 17 rfl rfl)
theorem dX4_readAxis_159 : decode cX4_readAxis 159 = .ok (.aload_n 0, 1) := dk_42 (dk_at dksX4_readAxis_6 18 rfl rfl)
theorem dX4_readAxis_160 : decode cX4_readAxis 160 = .ok (.getfield 7, 3) := dk_180 0 7 (dk_at dksX4_readAxis_6 19 rfl rfl)
theorem dX4_readAxis_163 : decode cX4_readAxis 163 = .ok (.sipush 186, 3) := dk_17 0 186 (dk_at dksX4_readAxis_7 0 rfl rfl)
theorem dX4_readAxis_166 : decode cX4_readAxis 166 = .ok (.iload_n 1, 1) := dk_27 (dk_at dksX4_readAxis_7 3 rfl rfl)
theorem dX4_readAxis_167 : decode cX4_readAxis 167 = .ok (.iadd, 1) := dk_96 (dk_at dksX4_readAxis_7 4 rfl rfl)
theorem dX4_readAxis_168 : decode cX4_readAxis 168 = .ok (.iload 4, 2) := dk_21 4 (dk_at dksX4_readAxis_7 5 rfl rfl)
theorem dX4_readAxis_170 : decode cX4_readAxis 170 = .ok (.iastore, 1) := dk_79 (dk_at dksX4_readAxis_7 7 rfl rfl)
theorem dX4_readAxis_171 : decode cX4_readAxis 171 = .ok (.aload_n 0, 1) := dk_42 (dk_at dksX4_readAxis_7 8 rfl rfl)
theorem dX4_readAxis_172 : decode cX4_readAxis 172 = .ok (.getfield 7, 3) := dk_180 0 7 (dk_at dksX4_readAxis_7 9 rfl rfl)
theorem dX4_readAxis_175 : decode cX4_readAxis 175 = .ok (.sipush 190, 3) := dk_17 0 190 (dk_at dksX4_readAxis_7 12 rfl rfl)
theorem dX4_readAxis_178 : decode cX4_readAxis 178 = .ok (.iload_n 1, 1) := dk_27 (dk_at dksX4_readAxis_7 15 rfl rfl)
theorem dX4_readAxis_179 : decode cX4_readAxis 179 = .ok (.iadd, 1) := dk_96 (dk_at dksX4_readAxis_7 16 rfl rfl)
theorem dX4_readAxis_180 : decode cX4_readAxis 180 = .ok (.iload 5, 2) := dk_21 5 (dk_at dksX4_readAxis_7 17 rfl rfl)
theorem dX4_readAxis_182 : decode cX4_readAxis 182 = .ok (.iastore, 1) := dk_79 (dk_at dksX4_readAxis_7 19 rfl rfl)
theorem dX4_readAxis_183 : decode cX4_readAxis 183 = .ok (.aload_n 0, 1) := dk_42 (dk_at dksX4_readAxis_7 20 rfl rfl)
theorem dX4_readAxis_184 : decode cX4_readAxis 184 = .ok (.dup, 1) := dk_89 (dk_at dksX4_readAxis_7 21 rfl rfl)
theorem dX4_readAxis_185 : decode cX4_readAxis 185 = .ok (.getfield 163, 3) := dk_180 0 163 (dk_at dksX4_readAxis_8 0 rfl rfl)
theorem dX4_readAxis_188 : decode cX4_readAxis 188 = .ok (.iconst 1, 1) := dk_4 (dk_at dksX4_readAxis_8 3 rfl rfl)
theorem dX4_readAxis_189 : decode cX4_readAxis 189 = .ok (.iadd, 1) := dk_96 (dk_at dksX4_readAxis_8 4 rfl rfl)
theorem dX4_readAxis_190 : decode cX4_readAxis 190 = .ok (.putfield 163, 3) := dk_181 0 163 (dk_at dksX4_readAxis_8 5 rfl rfl)
theorem dX4_readAxis_193 : decode cX4_readAxis 193 = .ok (.return_, 1) := dk_177 (dk_at dksX4_readAxis_8 8 rfl rfl)
abbrev cX4_must : ByteArray := prog_17_method_29_code
def yX4_must : MethodName := ⟨RX4, "must", "(Z)V"⟩
def dkwX4_must_0 : List UInt8 := [27, 154, 0, 19, 42, 180, 0, 147, 2, 160, 0, 11, 42, 42, 180, 0, 138, 181, 0, 147, 177]
abbrev dktX4_must_0 : List UInt8 := dkwX4_must_0 ++ []
theorem dksX4_must_0 : cX4_must.data.toList.drop 0 = dktX4_must_0 := by decide +kernel
theorem dX4_must_0 : decode cX4_must 0 = .ok (.iload_n 1, 1) := dk_27 (dk_at dksX4_must_0 0 rfl rfl)
theorem dX4_must_1 : decode cX4_must 1 = .ok (.ifCond .ne 19, 3) := dk_154 0 19 (dk_at dksX4_must_0 1 rfl rfl)
theorem dX4_must_4 : decode cX4_must 4 = .ok (.aload_n 0, 1) := dk_42 (dk_at dksX4_must_0 4 rfl rfl)
theorem dX4_must_5 : decode cX4_must 5 = .ok (.getfield 147, 3) := dk_180 0 147 (dk_at dksX4_must_0 5 rfl rfl)
theorem dX4_must_8 : decode cX4_must 8 = .ok (.iconst (-1), 1) := dk_2 (dk_at dksX4_must_0 8 rfl rfl)
theorem dX4_must_9 : decode cX4_must 9 = .ok (.if_icmp .ne 11, 3) := dk_160 0 11 (dk_at dksX4_must_0 9 rfl rfl)
theorem dX4_must_12 : decode cX4_must 12 = .ok (.aload_n 0, 1) := dk_42 (dk_at dksX4_must_0 12 rfl rfl)
theorem dX4_must_13 : decode cX4_must 13 = .ok (.aload_n 0, 1) := dk_42 (dk_at dksX4_must_0 13 rfl rfl)
theorem dX4_must_14 : decode cX4_must 14 = .ok (.getfield 138, 3) := dk_180 0 138 (dk_at dksX4_must_0 14 rfl rfl)
theorem dX4_must_17 : decode cX4_must 17 = .ok (.putfield 147, 3) := dk_181 0 147 (dk_at dksX4_must_0 17 rfl rfl)
theorem dX4_must_20 : decode cX4_must 20 = .ok (.return_, 1) := dk_177 (dk_at dksX4_must_0 20 rfl rfl)
abbrev cX4_goesOn : ByteArray := prog_17_method_30_code
def yX4_goesOn : MethodName := ⟨RX4, "goesOn", "()V"⟩
def dkwX4_goesOn_0 : List UInt8 := [42, 182, 0, 150, 153, 0, 7, 42, 182, 0, 154, 177]
abbrev dktX4_goesOn_0 : List UInt8 := dkwX4_goesOn_0 ++ []
theorem dksX4_goesOn_0 : cX4_goesOn.data.toList.drop 0 = dktX4_goesOn_0 := by decide +kernel
theorem dX4_goesOn_0 : decode cX4_goesOn 0 = .ok (.aload_n 0, 1) := dk_42 (dk_at dksX4_goesOn_0 0 rfl rfl)
theorem dX4_goesOn_1 : decode cX4_goesOn 1 = .ok (.invokevirtual 150, 3) := dk_182 0 150 (dk_at dksX4_goesOn_0 1 rfl rfl)
theorem dX4_goesOn_4 : decode cX4_goesOn 4 = .ok (.ifCond .eq 7, 3) := dk_153 0 7 (dk_at dksX4_goesOn_0 4 rfl rfl)
theorem dX4_goesOn_7 : decode cX4_goesOn 7 = .ok (.aload_n 0, 1) := dk_42 (dk_at dksX4_goesOn_0 7 rfl rfl)
theorem dX4_goesOn_8 : decode cX4_goesOn 8 = .ok (.invokevirtual 154, 3) := dk_182 0 154 (dk_at dksX4_goesOn_0 8 rfl rfl)
theorem dX4_goesOn_11 : decode cX4_goesOn 11 = .ok (.return_, 1) := dk_177 (dk_at dksX4_goesOn_0 11 rfl rfl)
abbrev cX4_axisHere : ByteArray := prog_17_method_38_code
def yX4_axisHere : MethodName := ⟨RX4, "axisHere", "()I"⟩
def dkwX4_axisHere_2 : List UInt8 := [167, 255, 229, 2, 172]
abbrev dktX4_axisHere_2 : List UInt8 := dkwX4_axisHere_2 ++ []
def dkwX4_axisHere_1 : List UInt8 := [162, 0, 25, 42, 180, 0, 31, 27, 47, 42, 180, 0, 111, 148, 154, 0, 5, 27, 172, 132, 1, 1]
abbrev dktX4_axisHere_1 : List UInt8 := dkwX4_axisHere_1 ++ dktX4_axisHere_2
def dkwX4_axisHere_0 : List UInt8 := [42, 182, 0, 150, 153, 0, 11, 42, 180, 0, 126, 4, 159, 0, 5, 2, 172, 3, 60, 27, 42, 180, 0, 163]
abbrev dktX4_axisHere_0 : List UInt8 := dkwX4_axisHere_0 ++ dktX4_axisHere_1
theorem dksX4_axisHere_0 : cX4_axisHere.data.toList.drop 0 = dktX4_axisHere_0 := by decide +kernel
theorem dksX4_axisHere_1 : cX4_axisHere.data.toList.drop 24 = dktX4_axisHere_1 := dk_seg dksX4_axisHere_0 24 rfl rfl
theorem dksX4_axisHere_2 : cX4_axisHere.data.toList.drop 46 = dktX4_axisHere_2 := dk_seg dksX4_axisHere_1 22 rfl rfl
theorem dX4_axisHere_0 : decode cX4_axisHere 0 = .ok (.aload_n 0, 1) := dk_42 (dk_at dksX4_axisHere_0 0 rfl rfl)
theorem dX4_axisHere_1 : decode cX4_axisHere 1 = .ok (.invokevirtual 150, 3) := dk_182 0 150 (dk_at dksX4_axisHere_0 1 rfl rfl)
theorem dX4_axisHere_4 : decode cX4_axisHere 4 = .ok (.ifCond .eq 11, 3) := dk_153 0 11 (dk_at dksX4_axisHere_0 4 rfl rfl)
theorem dX4_axisHere_7 : decode cX4_axisHere 7 = .ok (.aload_n 0, 1) := dk_42 (dk_at dksX4_axisHere_0 7 rfl rfl)
theorem dX4_axisHere_8 : decode cX4_axisHere 8 = .ok (.getfield 126, 3) := dk_180 0 126 (dk_at dksX4_axisHere_0 8 rfl rfl)
theorem dX4_axisHere_11 : decode cX4_axisHere 11 = .ok (.iconst 1, 1) := dk_4 (dk_at dksX4_axisHere_0 11 rfl rfl)
theorem dX4_axisHere_12 : decode cX4_axisHere 12 = .ok (.if_icmp .eq 5, 3) := dk_159 0 5 (dk_at dksX4_axisHere_0 12 rfl rfl)
theorem dX4_axisHere_15 : decode cX4_axisHere 15 = .ok (.iconst (-1), 1) := dk_2 (dk_at dksX4_axisHere_0 15 rfl rfl)
theorem dX4_axisHere_16 : decode cX4_axisHere 16 = .ok (.ireturn, 1) := dk_172 (dk_at dksX4_axisHere_0 16 rfl rfl)
theorem dX4_axisHere_17 : decode cX4_axisHere 17 = .ok (.iconst 0, 1) := dk_3 (dk_at dksX4_axisHere_0 17 rfl rfl)
theorem dX4_axisHere_18 : decode cX4_axisHere 18 = .ok (.istore_n 1, 1) := dk_60 (dk_at dksX4_axisHere_0 18 rfl rfl)
theorem dX4_axisHere_19 : decode cX4_axisHere 19 = .ok (.iload_n 1, 1) := dk_27 (dk_at dksX4_axisHere_0 19 rfl rfl)
theorem dX4_axisHere_20 : decode cX4_axisHere 20 = .ok (.aload_n 0, 1) := dk_42 (dk_at dksX4_axisHere_0 20 rfl rfl)
theorem dX4_axisHere_21 : decode cX4_axisHere 21 = .ok (.getfield 163, 3) := dk_180 0 163 (dk_at dksX4_axisHere_0 21 rfl rfl)
theorem dX4_axisHere_24 : decode cX4_axisHere 24 = .ok (.if_icmp .ge 25, 3) := dk_162 0 25 (dk_at dksX4_axisHere_1 0 rfl rfl)
theorem dX4_axisHere_27 : decode cX4_axisHere 27 = .ok (.aload_n 0, 1) := dk_42 (dk_at dksX4_axisHere_1 3 rfl rfl)
theorem dX4_axisHere_28 : decode cX4_axisHere 28 = .ok (.getfield 31, 3) := dk_180 0 31 (dk_at dksX4_axisHere_1 4 rfl rfl)
theorem dX4_axisHere_31 : decode cX4_axisHere 31 = .ok (.iload_n 1, 1) := dk_27 (dk_at dksX4_axisHere_1 7 rfl rfl)
theorem dX4_axisHere_32 : decode cX4_axisHere 32 = .ok (.laload, 1) := dk_47 (dk_at dksX4_axisHere_1 8 rfl rfl)
theorem dX4_axisHere_33 : decode cX4_axisHere 33 = .ok (.aload_n 0, 1) := dk_42 (dk_at dksX4_axisHere_1 9 rfl rfl)
theorem dX4_axisHere_34 : decode cX4_axisHere 34 = .ok (.getfield 111, 3) := dk_180 0 111 (dk_at dksX4_axisHere_1 10 rfl rfl)
theorem dX4_axisHere_37 : decode cX4_axisHere 37 = .ok (.lcmp, 1) := dk_148 (dk_at dksX4_axisHere_1 13 rfl rfl)
theorem dX4_axisHere_38 : decode cX4_axisHere 38 = .ok (.ifCond .ne 5, 3) := dk_154 0 5 (dk_at dksX4_axisHere_1 14 rfl rfl)
theorem dX4_axisHere_41 : decode cX4_axisHere 41 = .ok (.iload_n 1, 1) := dk_27 (dk_at dksX4_axisHere_1 17 rfl rfl)
theorem dX4_axisHere_42 : decode cX4_axisHere 42 = .ok (.ireturn, 1) := dk_172 (dk_at dksX4_axisHere_1 18 rfl rfl)
theorem dX4_axisHere_43 : decode cX4_axisHere 43 = .ok (.iinc 1 1, 3) := dk_132 1 1 (dk_at dksX4_axisHere_1 19 rfl rfl)
theorem dX4_axisHere_46 : decode cX4_axisHere 46 = .ok (.goto (-27), 3) := dk_167 255 229 (dk_at dksX4_axisHere_2 0 rfl rfl)
theorem dX4_axisHere_49 : decode cX4_axisHere 49 = .ok (.iconst (-1), 1) := dk_2 (dk_at dksX4_axisHere_2 3 rfl rfl)
theorem dX4_axisHere_50 : decode cX4_axisHere 50 = .ok (.ireturn, 1) := dk_172 (dk_at dksX4_axisHere_2 4 rfl rfl)
abbrev cX4_readSigned : ByteArray := prog_17_method_37_code
def yX4_readSigned : MethodName := ⟨RX4, "readSigned", "(II)I"⟩
def dkwX4_readSigned_3 : List UInt8 := [184, 0, 84, 182, 0, 178, 42, 182, 0, 182, 42, 182, 0, 150, 153, 0, 8, 21, 4, 167, 0, 4, 3, 172]
abbrev dktX4_readSigned_3 : List UInt8 := dkwX4_readSigned_3 ++ []
def dkwX4_readSigned_2 : List UInt8 := [29, 153, 0, 11, 42, 180, 0, 129, 116, 167, 0, 7, 42, 180, 0, 129, 54, 4, 42, 21, 4, 27, 28]
abbrev dktX4_readSigned_2 : List UInt8 := dkwX4_readSigned_2 ++ dktX4_readSigned_3
def dkwX4_readSigned_1 : List UInt8 := [153, 0, 7, 42, 182, 0, 154, 42, 42, 180, 0, 126, 5, 160, 0, 7, 4, 167, 0, 4, 3, 182, 0, 178]
abbrev dktX4_readSigned_1 : List UInt8 := dkwX4_readSigned_1 ++ dktX4_readSigned_2
def dkwX4_readSigned_0 : List UInt8 := [42, 182, 0, 150, 153, 0, 15, 42, 180, 0, 126, 7, 160, 0, 7, 4, 167, 0, 4, 3, 62, 29]
abbrev dktX4_readSigned_0 : List UInt8 := dkwX4_readSigned_0 ++ dktX4_readSigned_1
theorem dksX4_readSigned_0 : cX4_readSigned.data.toList.drop 0 = dktX4_readSigned_0 := by decide +kernel
theorem dksX4_readSigned_1 : cX4_readSigned.data.toList.drop 22 = dktX4_readSigned_1 := dk_seg dksX4_readSigned_0 22 rfl rfl
theorem dksX4_readSigned_2 : cX4_readSigned.data.toList.drop 46 = dktX4_readSigned_2 := dk_seg dksX4_readSigned_1 24 rfl rfl
theorem dksX4_readSigned_3 : cX4_readSigned.data.toList.drop 69 = dktX4_readSigned_3 := dk_seg dksX4_readSigned_2 23 rfl rfl
theorem dX4_readSigned_0 : decode cX4_readSigned 0 = .ok (.aload_n 0, 1) := dk_42 (dk_at dksX4_readSigned_0 0 rfl rfl)
theorem dX4_readSigned_1 : decode cX4_readSigned 1 = .ok (.invokevirtual 150, 3) := dk_182 0 150 (dk_at dksX4_readSigned_0 1 rfl rfl)
theorem dX4_readSigned_4 : decode cX4_readSigned 4 = .ok (.ifCond .eq 15, 3) := dk_153 0 15 (dk_at dksX4_readSigned_0 4 rfl rfl)
theorem dX4_readSigned_7 : decode cX4_readSigned 7 = .ok (.aload_n 0, 1) := dk_42 (dk_at dksX4_readSigned_0 7 rfl rfl)
theorem dX4_readSigned_8 : decode cX4_readSigned 8 = .ok (.getfield 126, 3) := dk_180 0 126 (dk_at dksX4_readSigned_0 8 rfl rfl)
theorem dX4_readSigned_11 : decode cX4_readSigned 11 = .ok (.iconst 4, 1) := dk_7 (dk_at dksX4_readSigned_0 11 rfl rfl)
theorem dX4_readSigned_12 : decode cX4_readSigned 12 = .ok (.if_icmp .ne 7, 3) := dk_160 0 7 (dk_at dksX4_readSigned_0 12 rfl rfl)
theorem dX4_readSigned_15 : decode cX4_readSigned 15 = .ok (.iconst 1, 1) := dk_4 (dk_at dksX4_readSigned_0 15 rfl rfl)
theorem dX4_readSigned_16 : decode cX4_readSigned 16 = .ok (.goto 4, 3) := dk_167 0 4 (dk_at dksX4_readSigned_0 16 rfl rfl)
theorem dX4_readSigned_19 : decode cX4_readSigned 19 = .ok (.iconst 0, 1) := dk_3 (dk_at dksX4_readSigned_0 19 rfl rfl)
theorem dX4_readSigned_20 : decode cX4_readSigned 20 = .ok (.istore_n 3, 1) := dk_62 (dk_at dksX4_readSigned_0 20 rfl rfl)
theorem dX4_readSigned_21 : decode cX4_readSigned 21 = .ok (.iload_n 3, 1) := dk_29 (dk_at dksX4_readSigned_0 21 rfl rfl)
theorem dX4_readSigned_22 : decode cX4_readSigned 22 = .ok (.ifCond .eq 7, 3) := dk_153 0 7 (dk_at dksX4_readSigned_1 0 rfl rfl)
theorem dX4_readSigned_25 : decode cX4_readSigned 25 = .ok (.aload_n 0, 1) := dk_42 (dk_at dksX4_readSigned_1 3 rfl rfl)
theorem dX4_readSigned_26 : decode cX4_readSigned 26 = .ok (.invokevirtual 154, 3) := dk_182 0 154 (dk_at dksX4_readSigned_1 4 rfl rfl)
theorem dX4_readSigned_29 : decode cX4_readSigned 29 = .ok (.aload_n 0, 1) := dk_42 (dk_at dksX4_readSigned_1 7 rfl rfl)
theorem dX4_readSigned_30 : decode cX4_readSigned 30 = .ok (.aload_n 0, 1) := dk_42 (dk_at dksX4_readSigned_1 8 rfl rfl)
theorem dX4_readSigned_31 : decode cX4_readSigned 31 = .ok (.getfield 126, 3) := dk_180 0 126 (dk_at dksX4_readSigned_1 9 rfl rfl)
theorem dX4_readSigned_34 : decode cX4_readSigned 34 = .ok (.iconst 2, 1) := dk_5 (dk_at dksX4_readSigned_1 12 rfl rfl)
theorem dX4_readSigned_35 : decode cX4_readSigned 35 = .ok (.if_icmp .ne 7, 3) := dk_160 0 7 (dk_at dksX4_readSigned_1 13 rfl rfl)
theorem dX4_readSigned_38 : decode cX4_readSigned 38 = .ok (.iconst 1, 1) := dk_4 (dk_at dksX4_readSigned_1 16 rfl rfl)
theorem dX4_readSigned_39 : decode cX4_readSigned 39 = .ok (.goto 4, 3) := dk_167 0 4 (dk_at dksX4_readSigned_1 17 rfl rfl)
theorem dX4_readSigned_42 : decode cX4_readSigned 42 = .ok (.iconst 0, 1) := dk_3 (dk_at dksX4_readSigned_1 20 rfl rfl)
theorem dX4_readSigned_43 : decode cX4_readSigned 43 = .ok (.invokevirtual 178, 3) := dk_182 0 178 (dk_at dksX4_readSigned_1 21 rfl rfl)
theorem dX4_readSigned_46 : decode cX4_readSigned 46 = .ok (.iload_n 3, 1) := dk_29 (dk_at dksX4_readSigned_2 0 rfl rfl)
theorem dX4_readSigned_47 : decode cX4_readSigned 47 = .ok (.ifCond .eq 11, 3) := dk_153 0 11 (dk_at dksX4_readSigned_2 1 rfl rfl)
theorem dX4_readSigned_50 : decode cX4_readSigned 50 = .ok (.aload_n 0, 1) := dk_42 (dk_at dksX4_readSigned_2 4 rfl rfl)
theorem dX4_readSigned_51 : decode cX4_readSigned 51 = .ok (.getfield 129, 3) := dk_180 0 129 (dk_at dksX4_readSigned_2 5 rfl rfl)
theorem dX4_readSigned_54 : decode cX4_readSigned 54 = .ok (.ineg, 1) := dk_116 (dk_at dksX4_readSigned_2 8 rfl rfl)
theorem dX4_readSigned_55 : decode cX4_readSigned 55 = .ok (.goto 7, 3) := dk_167 0 7 (dk_at dksX4_readSigned_2 9 rfl rfl)
theorem dX4_readSigned_58 : decode cX4_readSigned 58 = .ok (.aload_n 0, 1) := dk_42 (dk_at dksX4_readSigned_2 12 rfl rfl)
theorem dX4_readSigned_59 : decode cX4_readSigned 59 = .ok (.getfield 129, 3) := dk_180 0 129 (dk_at dksX4_readSigned_2 13 rfl rfl)
theorem dX4_readSigned_62 : decode cX4_readSigned 62 = .ok (.istore 4, 2) := dk_54 4 (dk_at dksX4_readSigned_2 16 rfl rfl)
theorem dX4_readSigned_64 : decode cX4_readSigned 64 = .ok (.aload_n 0, 1) := dk_42 (dk_at dksX4_readSigned_2 18 rfl rfl)
theorem dX4_readSigned_65 : decode cX4_readSigned 65 = .ok (.iload 4, 2) := dk_21 4 (dk_at dksX4_readSigned_2 19 rfl rfl)
theorem dX4_readSigned_67 : decode cX4_readSigned 67 = .ok (.iload_n 1, 1) := dk_27 (dk_at dksX4_readSigned_2 21 rfl rfl)
theorem dX4_readSigned_68 : decode cX4_readSigned 68 = .ok (.iload_n 2, 1) := dk_28 (dk_at dksX4_readSigned_2 22 rfl rfl)
theorem dX4_readSigned_69 : decode cX4_readSigned 69 = .ok (.invokestatic 84, 3) := dk_184 0 84 (dk_at dksX4_readSigned_3 0 rfl rfl)
theorem dX4_readSigned_72 : decode cX4_readSigned 72 = .ok (.invokevirtual 178, 3) := dk_182 0 178 (dk_at dksX4_readSigned_3 3 rfl rfl)
theorem dX4_readSigned_75 : decode cX4_readSigned 75 = .ok (.aload_n 0, 1) := dk_42 (dk_at dksX4_readSigned_3 6 rfl rfl)
theorem dX4_readSigned_76 : decode cX4_readSigned 76 = .ok (.invokevirtual 182, 3) := dk_182 0 182 (dk_at dksX4_readSigned_3 7 rfl rfl)
theorem dX4_readSigned_79 : decode cX4_readSigned 79 = .ok (.aload_n 0, 1) := dk_42 (dk_at dksX4_readSigned_3 10 rfl rfl)
theorem dX4_readSigned_80 : decode cX4_readSigned 80 = .ok (.invokevirtual 150, 3) := dk_182 0 150 (dk_at dksX4_readSigned_3 11 rfl rfl)
theorem dX4_readSigned_83 : decode cX4_readSigned 83 = .ok (.ifCond .eq 8, 3) := dk_153 0 8 (dk_at dksX4_readSigned_3 14 rfl rfl)
theorem dX4_readSigned_86 : decode cX4_readSigned 86 = .ok (.iload 4, 2) := dk_21 4 (dk_at dksX4_readSigned_3 17 rfl rfl)
theorem dX4_readSigned_88 : decode cX4_readSigned 88 = .ok (.goto 4, 3) := dk_167 0 4 (dk_at dksX4_readSigned_3 19 rfl rfl)
theorem dX4_readSigned_91 : decode cX4_readSigned 91 = .ok (.iconst 0, 1) := dk_3 (dk_at dksX4_readSigned_3 22 rfl rfl)
theorem dX4_readSigned_92 : decode cX4_readSigned 92 = .ok (.ireturn, 1) := dk_172 (dk_at dksX4_readSigned_3 23 rfl rfl)
abbrev cX4_readValue : ByteArray := prog_17_method_36_code
def yX4_readValue : MethodName := ⟨RX4, "readValue", "(II)I"⟩
def dkwX4_readValue_2 : List UInt8 := [182, 0, 154, 29, 172]
abbrev dktX4_readValue_2 : List UInt8 := dkwX4_readValue_2 ++ []
def dkwX4_readValue_1 : List UInt8 := [167, 0, 4, 3, 182, 0, 178, 42, 182, 0, 150, 154, 0, 5, 3, 172, 42, 180, 0, 129, 62, 42]
abbrev dktX4_readValue_1 : List UInt8 := dkwX4_readValue_1 ++ dktX4_readValue_2
def dkwX4_readValue_0 : List UInt8 := [42, 42, 180, 0, 126, 5, 160, 0, 19, 42, 180, 0, 129, 27, 28, 184, 0, 84, 153, 0, 7, 4]
abbrev dktX4_readValue_0 : List UInt8 := dkwX4_readValue_0 ++ dktX4_readValue_1
theorem dksX4_readValue_0 : cX4_readValue.data.toList.drop 0 = dktX4_readValue_0 := by decide +kernel
theorem dksX4_readValue_1 : cX4_readValue.data.toList.drop 22 = dktX4_readValue_1 := dk_seg dksX4_readValue_0 22 rfl rfl
theorem dksX4_readValue_2 : cX4_readValue.data.toList.drop 44 = dktX4_readValue_2 := dk_seg dksX4_readValue_1 22 rfl rfl
theorem dX4_readValue_0 : decode cX4_readValue 0 = .ok (.aload_n 0, 1) := dk_42 (dk_at dksX4_readValue_0 0 rfl rfl)
theorem dX4_readValue_1 : decode cX4_readValue 1 = .ok (.aload_n 0, 1) := dk_42 (dk_at dksX4_readValue_0 1 rfl rfl)
theorem dX4_readValue_2 : decode cX4_readValue 2 = .ok (.getfield 126, 3) := dk_180 0 126 (dk_at dksX4_readValue_0 2 rfl rfl)
theorem dX4_readValue_5 : decode cX4_readValue 5 = .ok (.iconst 2, 1) := dk_5 (dk_at dksX4_readValue_0 5 rfl rfl)
theorem dX4_readValue_6 : decode cX4_readValue 6 = .ok (.if_icmp .ne 19, 3) := dk_160 0 19 (dk_at dksX4_readValue_0 6 rfl rfl)
theorem dX4_readValue_9 : decode cX4_readValue 9 = .ok (.aload_n 0, 1) := dk_42 (dk_at dksX4_readValue_0 9 rfl rfl)
theorem dX4_readValue_10 : decode cX4_readValue 10 = .ok (.getfield 129, 3) := dk_180 0 129 (dk_at dksX4_readValue_0 10 rfl rfl)
theorem dX4_readValue_13 : decode cX4_readValue 13 = .ok (.iload_n 1, 1) := dk_27 (dk_at dksX4_readValue_0 13 rfl rfl)
theorem dX4_readValue_14 : decode cX4_readValue 14 = .ok (.iload_n 2, 1) := dk_28 (dk_at dksX4_readValue_0 14 rfl rfl)
theorem dX4_readValue_15 : decode cX4_readValue 15 = .ok (.invokestatic 84, 3) := dk_184 0 84 (dk_at dksX4_readValue_0 15 rfl rfl)
theorem dX4_readValue_18 : decode cX4_readValue 18 = .ok (.ifCond .eq 7, 3) := dk_153 0 7 (dk_at dksX4_readValue_0 18 rfl rfl)
theorem dX4_readValue_21 : decode cX4_readValue 21 = .ok (.iconst 1, 1) := dk_4 (dk_at dksX4_readValue_0 21 rfl rfl)
theorem dX4_readValue_22 : decode cX4_readValue 22 = .ok (.goto 4, 3) := dk_167 0 4 (dk_at dksX4_readValue_1 0 rfl rfl)
theorem dX4_readValue_25 : decode cX4_readValue 25 = .ok (.iconst 0, 1) := dk_3 (dk_at dksX4_readValue_1 3 rfl rfl)
theorem dX4_readValue_26 : decode cX4_readValue 26 = .ok (.invokevirtual 178, 3) := dk_182 0 178 (dk_at dksX4_readValue_1 4 rfl rfl)
theorem dX4_readValue_29 : decode cX4_readValue 29 = .ok (.aload_n 0, 1) := dk_42 (dk_at dksX4_readValue_1 7 rfl rfl)
theorem dX4_readValue_30 : decode cX4_readValue 30 = .ok (.invokevirtual 150, 3) := dk_182 0 150 (dk_at dksX4_readValue_1 8 rfl rfl)
theorem dX4_readValue_33 : decode cX4_readValue 33 = .ok (.ifCond .ne 5, 3) := dk_154 0 5 (dk_at dksX4_readValue_1 11 rfl rfl)
theorem dX4_readValue_36 : decode cX4_readValue 36 = .ok (.iconst 0, 1) := dk_3 (dk_at dksX4_readValue_1 14 rfl rfl)
theorem dX4_readValue_37 : decode cX4_readValue 37 = .ok (.ireturn, 1) := dk_172 (dk_at dksX4_readValue_1 15 rfl rfl)
theorem dX4_readValue_38 : decode cX4_readValue 38 = .ok (.aload_n 0, 1) := dk_42 (dk_at dksX4_readValue_1 16 rfl rfl)
theorem dX4_readValue_39 : decode cX4_readValue 39 = .ok (.getfield 129, 3) := dk_180 0 129 (dk_at dksX4_readValue_1 17 rfl rfl)
theorem dX4_readValue_42 : decode cX4_readValue 42 = .ok (.istore_n 3, 1) := dk_62 (dk_at dksX4_readValue_1 20 rfl rfl)
theorem dX4_readValue_43 : decode cX4_readValue 43 = .ok (.aload_n 0, 1) := dk_42 (dk_at dksX4_readValue_1 21 rfl rfl)
theorem dX4_readValue_44 : decode cX4_readValue 44 = .ok (.invokevirtual 154, 3) := dk_182 0 154 (dk_at dksX4_readValue_2 0 rfl rfl)
theorem dX4_readValue_47 : decode cX4_readValue 47 = .ok (.iload_n 3, 1) := dk_29 (dk_at dksX4_readValue_2 3 rfl rfl)
theorem dX4_readValue_48 : decode cX4_readValue 48 = .ok (.ireturn, 1) := dk_172 (dk_at dksX4_readValue_2 4 rfl rfl)
abbrev cX4_readCue : ByteArray := prog_17_method_41_code
def yX4_readCue : MethodName := ⟨RX4, "readCue", "()V"⟩
def dkwX4_readCue_5 : List UInt8 := [167, 255, 236, 42, 180, 0, 7, 17, 0, 194, 27, 4, 96, 79, 177]
abbrev dktX4_readCue_5 : List UInt8 := dkwX4_readCue_5 ++ []
def dkwX4_readCue_4 : List UInt8 := [28, 182, 0, 194, 42, 182, 0, 150, 153, 0, 19, 42, 180, 0, 126, 4, 160, 0, 11, 42, 28, 182, 0, 194]
abbrev dktX4_readCue_4 : List UInt8 := dkwX4_readCue_4 ++ dktX4_readCue_5
def dkwX4_readCue_3 : List UInt8 := [17, 3, 231, 42, 180, 0, 7, 28, 46, 100, 182, 0, 191, 79, 42, 180, 0, 7, 28, 5, 96, 3, 79, 42]
abbrev dktX4_readCue_3 : List UInt8 := dkwX4_readCue_3 ++ dktX4_readCue_4
def dkwX4_readCue_2 : List UInt8 := [180, 0, 7, 28, 42, 3, 17, 3, 230, 182, 0, 191, 79, 42, 180, 0, 7, 28, 4, 96, 42, 4]
abbrev dktX4_readCue_2 : List UInt8 := dkwX4_readCue_2 ++ dktX4_readCue_3
def dkwX4_readCue_1 : List UInt8 := [42, 182, 0, 182, 42, 182, 0, 150, 154, 0, 4, 177, 17, 0, 195, 16, 7, 27, 104, 96, 61, 42]
abbrev dktX4_readCue_1 : List UInt8 := dkwX4_readCue_1 ++ dktX4_readCue_2
def dkwX4_readCue_0 : List UInt8 := [42, 180, 0, 7, 17, 0, 194, 46, 60, 42, 27, 16, 20, 162, 0, 7, 4, 167, 0, 4, 3, 182, 0, 178]
abbrev dktX4_readCue_0 : List UInt8 := dkwX4_readCue_0 ++ dktX4_readCue_1
theorem dksX4_readCue_0 : cX4_readCue.data.toList.drop 0 = dktX4_readCue_0 := by decide +kernel
theorem dksX4_readCue_1 : cX4_readCue.data.toList.drop 24 = dktX4_readCue_1 := dk_seg dksX4_readCue_0 24 rfl rfl
theorem dksX4_readCue_2 : cX4_readCue.data.toList.drop 46 = dktX4_readCue_2 := dk_seg dksX4_readCue_1 22 rfl rfl
theorem dksX4_readCue_3 : cX4_readCue.data.toList.drop 68 = dktX4_readCue_3 := dk_seg dksX4_readCue_2 22 rfl rfl
theorem dksX4_readCue_4 : cX4_readCue.data.toList.drop 92 = dktX4_readCue_4 := dk_seg dksX4_readCue_3 24 rfl rfl
theorem dksX4_readCue_5 : cX4_readCue.data.toList.drop 116 = dktX4_readCue_5 := dk_seg dksX4_readCue_4 24 rfl rfl
theorem dX4_readCue_0 : decode cX4_readCue 0 = .ok (.aload_n 0, 1) := dk_42 (dk_at dksX4_readCue_0 0 rfl rfl)
theorem dX4_readCue_1 : decode cX4_readCue 1 = .ok (.getfield 7, 3) := dk_180 0 7 (dk_at dksX4_readCue_0 1 rfl rfl)
theorem dX4_readCue_4 : decode cX4_readCue 4 = .ok (.sipush 194, 3) := dk_17 0 194 (dk_at dksX4_readCue_0 4 rfl rfl)
theorem dX4_readCue_7 : decode cX4_readCue 7 = .ok (.iaload, 1) := dk_46 (dk_at dksX4_readCue_0 7 rfl rfl)
theorem dX4_readCue_8 : decode cX4_readCue 8 = .ok (.istore_n 1, 1) := dk_60 (dk_at dksX4_readCue_0 8 rfl rfl)
theorem dX4_readCue_9 : decode cX4_readCue 9 = .ok (.aload_n 0, 1) := dk_42 (dk_at dksX4_readCue_0 9 rfl rfl)
theorem dX4_readCue_10 : decode cX4_readCue 10 = .ok (.iload_n 1, 1) := dk_27 (dk_at dksX4_readCue_0 10 rfl rfl)
theorem dX4_readCue_11 : decode cX4_readCue 11 = .ok (.bipush 20, 2) := dk_16 20 (dk_at dksX4_readCue_0 11 rfl rfl)
theorem dX4_readCue_13 : decode cX4_readCue 13 = .ok (.if_icmp .ge 7, 3) := dk_162 0 7 (dk_at dksX4_readCue_0 13 rfl rfl)
theorem dX4_readCue_16 : decode cX4_readCue 16 = .ok (.iconst 1, 1) := dk_4 (dk_at dksX4_readCue_0 16 rfl rfl)
theorem dX4_readCue_17 : decode cX4_readCue 17 = .ok (.goto 4, 3) := dk_167 0 4 (dk_at dksX4_readCue_0 17 rfl rfl)
theorem dX4_readCue_20 : decode cX4_readCue 20 = .ok (.iconst 0, 1) := dk_3 (dk_at dksX4_readCue_0 20 rfl rfl)
theorem dX4_readCue_21 : decode cX4_readCue 21 = .ok (.invokevirtual 178, 3) := dk_182 0 178 (dk_at dksX4_readCue_0 21 rfl rfl)
theorem dX4_readCue_24 : decode cX4_readCue 24 = .ok (.aload_n 0, 1) := dk_42 (dk_at dksX4_readCue_1 0 rfl rfl)
theorem dX4_readCue_25 : decode cX4_readCue 25 = .ok (.invokevirtual 182, 3) := dk_182 0 182 (dk_at dksX4_readCue_1 1 rfl rfl)
theorem dX4_readCue_28 : decode cX4_readCue 28 = .ok (.aload_n 0, 1) := dk_42 (dk_at dksX4_readCue_1 4 rfl rfl)
theorem dX4_readCue_29 : decode cX4_readCue 29 = .ok (.invokevirtual 150, 3) := dk_182 0 150 (dk_at dksX4_readCue_1 5 rfl rfl)
theorem dX4_readCue_32 : decode cX4_readCue 32 = .ok (.ifCond .ne 4, 3) := dk_154 0 4 (dk_at dksX4_readCue_1 8 rfl rfl)
theorem dX4_readCue_35 : decode cX4_readCue 35 = .ok (.return_, 1) := dk_177 (dk_at dksX4_readCue_1 11 rfl rfl)
theorem dX4_readCue_36 : decode cX4_readCue 36 = .ok (.sipush 195, 3) := dk_17 0 195 (dk_at dksX4_readCue_1 12 rfl rfl)
theorem dX4_readCue_39 : decode cX4_readCue 39 = .ok (.bipush 7, 2) := dk_16 7 (dk_at dksX4_readCue_1 15 rfl rfl)
theorem dX4_readCue_41 : decode cX4_readCue 41 = .ok (.iload_n 1, 1) := dk_27 (dk_at dksX4_readCue_1 17 rfl rfl)
theorem dX4_readCue_42 : decode cX4_readCue 42 = .ok (.imul, 1) := dk_104 (dk_at dksX4_readCue_1 18 rfl rfl)
theorem dX4_readCue_43 : decode cX4_readCue 43 = .ok (.iadd, 1) := dk_96 (dk_at dksX4_readCue_1 19 rfl rfl)
theorem dX4_readCue_44 : decode cX4_readCue 44 = .ok (.istore_n 2, 1) := dk_61 (dk_at dksX4_readCue_1 20 rfl rfl)
theorem dX4_readCue_45 : decode cX4_readCue 45 = .ok (.aload_n 0, 1) := dk_42 (dk_at dksX4_readCue_1 21 rfl rfl)
theorem dX4_readCue_46 : decode cX4_readCue 46 = .ok (.getfield 7, 3) := dk_180 0 7 (dk_at dksX4_readCue_2 0 rfl rfl)
theorem dX4_readCue_49 : decode cX4_readCue 49 = .ok (.iload_n 2, 1) := dk_28 (dk_at dksX4_readCue_2 3 rfl rfl)
theorem dX4_readCue_50 : decode cX4_readCue 50 = .ok (.aload_n 0, 1) := dk_42 (dk_at dksX4_readCue_2 4 rfl rfl)
theorem dX4_readCue_51 : decode cX4_readCue 51 = .ok (.iconst 0, 1) := dk_3 (dk_at dksX4_readCue_2 5 rfl rfl)
theorem dX4_readCue_52 : decode cX4_readCue 52 = .ok (.sipush 998, 3) := dk_17 3 230 (dk_at dksX4_readCue_2 6 rfl rfl)
theorem dX4_readCue_55 : decode cX4_readCue 55 = .ok (.invokevirtual 191, 3) := dk_182 0 191 (dk_at dksX4_readCue_2 9 rfl rfl)
theorem dX4_readCue_58 : decode cX4_readCue 58 = .ok (.iastore, 1) := dk_79 (dk_at dksX4_readCue_2 12 rfl rfl)
theorem dX4_readCue_59 : decode cX4_readCue 59 = .ok (.aload_n 0, 1) := dk_42 (dk_at dksX4_readCue_2 13 rfl rfl)
theorem dX4_readCue_60 : decode cX4_readCue 60 = .ok (.getfield 7, 3) := dk_180 0 7 (dk_at dksX4_readCue_2 14 rfl rfl)
theorem dX4_readCue_63 : decode cX4_readCue 63 = .ok (.iload_n 2, 1) := dk_28 (dk_at dksX4_readCue_2 17 rfl rfl)
theorem dX4_readCue_64 : decode cX4_readCue 64 = .ok (.iconst 1, 1) := dk_4 (dk_at dksX4_readCue_2 18 rfl rfl)
theorem dX4_readCue_65 : decode cX4_readCue 65 = .ok (.iadd, 1) := dk_96 (dk_at dksX4_readCue_2 19 rfl rfl)
theorem dX4_readCue_66 : decode cX4_readCue 66 = .ok (.aload_n 0, 1) := dk_42 (dk_at dksX4_readCue_2 20 rfl rfl)
theorem dX4_readCue_67 : decode cX4_readCue 67 = .ok (.iconst 1, 1) := dk_4 (dk_at dksX4_readCue_2 21 rfl rfl)
theorem dX4_readCue_68 : decode cX4_readCue 68 = .ok (.sipush 999, 3) := dk_17 3 231 (dk_at dksX4_readCue_3 0 rfl rfl)
theorem dX4_readCue_71 : decode cX4_readCue 71 = .ok (.aload_n 0, 1) := dk_42 (dk_at dksX4_readCue_3 3 rfl rfl)
theorem dX4_readCue_72 : decode cX4_readCue 72 = .ok (.getfield 7, 3) := dk_180 0 7 (dk_at dksX4_readCue_3 4 rfl rfl)
theorem dX4_readCue_75 : decode cX4_readCue 75 = .ok (.iload_n 2, 1) := dk_28 (dk_at dksX4_readCue_3 7 rfl rfl)
theorem dX4_readCue_76 : decode cX4_readCue 76 = .ok (.iaload, 1) := dk_46 (dk_at dksX4_readCue_3 8 rfl rfl)
theorem dX4_readCue_77 : decode cX4_readCue 77 = .ok (.isub, 1) := dk_100 (dk_at dksX4_readCue_3 9 rfl rfl)
theorem dX4_readCue_78 : decode cX4_readCue 78 = .ok (.invokevirtual 191, 3) := dk_182 0 191 (dk_at dksX4_readCue_3 10 rfl rfl)
theorem dX4_readCue_81 : decode cX4_readCue 81 = .ok (.iastore, 1) := dk_79 (dk_at dksX4_readCue_3 13 rfl rfl)
theorem dX4_readCue_82 : decode cX4_readCue 82 = .ok (.aload_n 0, 1) := dk_42 (dk_at dksX4_readCue_3 14 rfl rfl)
theorem dX4_readCue_83 : decode cX4_readCue 83 = .ok (.getfield 7, 3) := dk_180 0 7 (dk_at dksX4_readCue_3 15 rfl rfl)
theorem dX4_readCue_86 : decode cX4_readCue 86 = .ok (.iload_n 2, 1) := dk_28 (dk_at dksX4_readCue_3 18 rfl rfl)
theorem dX4_readCue_87 : decode cX4_readCue 87 = .ok (.iconst 2, 1) := dk_5 (dk_at dksX4_readCue_3 19 rfl rfl)
theorem dX4_readCue_88 : decode cX4_readCue 88 = .ok (.iadd, 1) := dk_96 (dk_at dksX4_readCue_3 20 rfl rfl)
theorem dX4_readCue_89 : decode cX4_readCue 89 = .ok (.iconst 0, 1) := dk_3 (dk_at dksX4_readCue_3 21 rfl rfl)
theorem dX4_readCue_90 : decode cX4_readCue 90 = .ok (.iastore, 1) := dk_79 (dk_at dksX4_readCue_3 22 rfl rfl)
theorem dX4_readCue_91 : decode cX4_readCue 91 = .ok (.aload_n 0, 1) := dk_42 (dk_at dksX4_readCue_3 23 rfl rfl)
theorem dX4_readCue_92 : decode cX4_readCue 92 = .ok (.iload_n 2, 1) := dk_28 (dk_at dksX4_readCue_4 0 rfl rfl)
theorem dX4_readCue_93 : decode cX4_readCue 93 = .ok (.invokevirtual 194, 3) := dk_182 0 194 (dk_at dksX4_readCue_4 1 rfl rfl)
theorem dX4_readCue_96 : decode cX4_readCue 96 = .ok (.aload_n 0, 1) := dk_42 (dk_at dksX4_readCue_4 4 rfl rfl)
theorem dX4_readCue_97 : decode cX4_readCue 97 = .ok (.invokevirtual 150, 3) := dk_182 0 150 (dk_at dksX4_readCue_4 5 rfl rfl)
theorem dX4_readCue_100 : decode cX4_readCue 100 = .ok (.ifCond .eq 19, 3) := dk_153 0 19 (dk_at dksX4_readCue_4 8 rfl rfl)
theorem dX4_readCue_103 : decode cX4_readCue 103 = .ok (.aload_n 0, 1) := dk_42 (dk_at dksX4_readCue_4 11 rfl rfl)
theorem dX4_readCue_104 : decode cX4_readCue 104 = .ok (.getfield 126, 3) := dk_180 0 126 (dk_at dksX4_readCue_4 12 rfl rfl)
theorem dX4_readCue_107 : decode cX4_readCue 107 = .ok (.iconst 1, 1) := dk_4 (dk_at dksX4_readCue_4 15 rfl rfl)
theorem dX4_readCue_108 : decode cX4_readCue 108 = .ok (.if_icmp .ne 11, 3) := dk_160 0 11 (dk_at dksX4_readCue_4 16 rfl rfl)
theorem dX4_readCue_111 : decode cX4_readCue 111 = .ok (.aload_n 0, 1) := dk_42 (dk_at dksX4_readCue_4 19 rfl rfl)
theorem dX4_readCue_112 : decode cX4_readCue 112 = .ok (.iload_n 2, 1) := dk_28 (dk_at dksX4_readCue_4 20 rfl rfl)
theorem dX4_readCue_113 : decode cX4_readCue 113 = .ok (.invokevirtual 194, 3) := dk_182 0 194 (dk_at dksX4_readCue_4 21 rfl rfl)
theorem dX4_readCue_116 : decode cX4_readCue 116 = .ok (.goto (-20), 3) := dk_167 255 236 (dk_at dksX4_readCue_5 0 rfl rfl)
theorem dX4_readCue_119 : decode cX4_readCue 119 = .ok (.aload_n 0, 1) := dk_42 (dk_at dksX4_readCue_5 3 rfl rfl)
theorem dX4_readCue_120 : decode cX4_readCue 120 = .ok (.getfield 7, 3) := dk_180 0 7 (dk_at dksX4_readCue_5 4 rfl rfl)
theorem dX4_readCue_123 : decode cX4_readCue 123 = .ok (.sipush 194, 3) := dk_17 0 194 (dk_at dksX4_readCue_5 7 rfl rfl)
theorem dX4_readCue_126 : decode cX4_readCue 126 = .ok (.iload_n 1, 1) := dk_27 (dk_at dksX4_readCue_5 10 rfl rfl)
theorem dX4_readCue_127 : decode cX4_readCue 127 = .ok (.iconst 1, 1) := dk_4 (dk_at dksX4_readCue_5 11 rfl rfl)
theorem dX4_readCue_128 : decode cX4_readCue 128 = .ok (.iadd, 1) := dk_96 (dk_at dksX4_readCue_5 12 rfl rfl)
theorem dX4_readCue_129 : decode cX4_readCue 129 = .ok (.iastore, 1) := dk_79 (dk_at dksX4_readCue_5 13 rfl rfl)
theorem dX4_readCue_130 : decode cX4_readCue 130 = .ok (.return_, 1) := dk_177 (dk_at dksX4_readCue_5 14 rfl rfl)
abbrev cX4_readTarget : ByteArray := prog_17_method_40_code
def yX4_readTarget : MethodName := ⟨RX4, "readTarget", "(I)V"⟩
def dkwX4_readTarget_4 : List UInt8 := [180, 0, 7, 27, 6, 96, 28, 96, 29, 79, 177]
abbrev dktX4_readTarget_4 : List UInt8 := dkwX4_readTarget_4 ++ []
def dkwX4_readTarget_3 : List UInt8 := [182, 0, 150, 154, 0, 4, 177, 42, 180, 0, 7, 27, 5, 96, 92, 46, 4, 28, 120, 128, 79, 42]
abbrev dktX4_readTarget_3 : List UInt8 := dkwX4_readTarget_3 ++ dktX4_readTarget_4
def dkwX4_readTarget_2 : List UInt8 := [42, 180, 0, 34, 6, 28, 104, 46, 42, 180, 0, 34, 6, 28, 104, 4, 96, 46, 182, 0, 188, 62, 42]
abbrev dktX4_readTarget_2 : List UInt8 := dkwX4_readTarget_2 ++ dktX4_readTarget_3
def dkwX4_readTarget_1 : List UInt8 := [154, 0, 7, 4, 167, 0, 4, 3, 182, 0, 178, 42, 182, 0, 182, 42, 182, 0, 150, 154, 0, 4, 177, 42]
abbrev dktX4_readTarget_1 : List UInt8 := dkwX4_readTarget_1 ++ dktX4_readTarget_2
def dkwX4_readTarget_0 : List UInt8 := [42, 182, 0, 185, 61, 42, 28, 2, 159, 0, 22, 42, 180, 0, 7, 27, 5, 96, 46, 28, 122, 4, 126]
abbrev dktX4_readTarget_0 : List UInt8 := dkwX4_readTarget_0 ++ dktX4_readTarget_1
theorem dksX4_readTarget_0 : cX4_readTarget.data.toList.drop 0 = dktX4_readTarget_0 := by decide +kernel
theorem dksX4_readTarget_1 : cX4_readTarget.data.toList.drop 23 = dktX4_readTarget_1 := dk_seg dksX4_readTarget_0 23 rfl rfl
theorem dksX4_readTarget_2 : cX4_readTarget.data.toList.drop 47 = dktX4_readTarget_2 := dk_seg dksX4_readTarget_1 24 rfl rfl
theorem dksX4_readTarget_3 : cX4_readTarget.data.toList.drop 70 = dktX4_readTarget_3 := dk_seg dksX4_readTarget_2 23 rfl rfl
theorem dksX4_readTarget_4 : cX4_readTarget.data.toList.drop 92 = dktX4_readTarget_4 := dk_seg dksX4_readTarget_3 22 rfl rfl
theorem dX4_readTarget_0 : decode cX4_readTarget 0 = .ok (.aload_n 0, 1) := dk_42 (dk_at dksX4_readTarget_0 0 rfl rfl)
theorem dX4_readTarget_1 : decode cX4_readTarget 1 = .ok (.invokevirtual 185, 3) := dk_182 0 185 (dk_at dksX4_readTarget_0 1 rfl rfl)
theorem dX4_readTarget_4 : decode cX4_readTarget 4 = .ok (.istore_n 2, 1) := dk_61 (dk_at dksX4_readTarget_0 4 rfl rfl)
theorem dX4_readTarget_5 : decode cX4_readTarget 5 = .ok (.aload_n 0, 1) := dk_42 (dk_at dksX4_readTarget_0 5 rfl rfl)
theorem dX4_readTarget_6 : decode cX4_readTarget 6 = .ok (.iload_n 2, 1) := dk_28 (dk_at dksX4_readTarget_0 6 rfl rfl)
theorem dX4_readTarget_7 : decode cX4_readTarget 7 = .ok (.iconst (-1), 1) := dk_2 (dk_at dksX4_readTarget_0 7 rfl rfl)
theorem dX4_readTarget_8 : decode cX4_readTarget 8 = .ok (.if_icmp .eq 22, 3) := dk_159 0 22 (dk_at dksX4_readTarget_0 8 rfl rfl)
theorem dX4_readTarget_11 : decode cX4_readTarget 11 = .ok (.aload_n 0, 1) := dk_42 (dk_at dksX4_readTarget_0 11 rfl rfl)
theorem dX4_readTarget_12 : decode cX4_readTarget 12 = .ok (.getfield 7, 3) := dk_180 0 7 (dk_at dksX4_readTarget_0 12 rfl rfl)
theorem dX4_readTarget_15 : decode cX4_readTarget 15 = .ok (.iload_n 1, 1) := dk_27 (dk_at dksX4_readTarget_0 15 rfl rfl)
theorem dX4_readTarget_16 : decode cX4_readTarget 16 = .ok (.iconst 2, 1) := dk_5 (dk_at dksX4_readTarget_0 16 rfl rfl)
theorem dX4_readTarget_17 : decode cX4_readTarget 17 = .ok (.iadd, 1) := dk_96 (dk_at dksX4_readTarget_0 17 rfl rfl)
theorem dX4_readTarget_18 : decode cX4_readTarget 18 = .ok (.iaload, 1) := dk_46 (dk_at dksX4_readTarget_0 18 rfl rfl)
theorem dX4_readTarget_19 : decode cX4_readTarget 19 = .ok (.iload_n 2, 1) := dk_28 (dk_at dksX4_readTarget_0 19 rfl rfl)
theorem dX4_readTarget_20 : decode cX4_readTarget 20 = .ok (.ishr, 1) := dk_122 (dk_at dksX4_readTarget_0 20 rfl rfl)
theorem dX4_readTarget_21 : decode cX4_readTarget 21 = .ok (.iconst 1, 1) := dk_4 (dk_at dksX4_readTarget_0 21 rfl rfl)
theorem dX4_readTarget_22 : decode cX4_readTarget 22 = .ok (.iand, 1) := dk_126 (dk_at dksX4_readTarget_0 22 rfl rfl)
theorem dX4_readTarget_23 : decode cX4_readTarget 23 = .ok (.ifCond .ne 7, 3) := dk_154 0 7 (dk_at dksX4_readTarget_1 0 rfl rfl)
theorem dX4_readTarget_26 : decode cX4_readTarget 26 = .ok (.iconst 1, 1) := dk_4 (dk_at dksX4_readTarget_1 3 rfl rfl)
theorem dX4_readTarget_27 : decode cX4_readTarget 27 = .ok (.goto 4, 3) := dk_167 0 4 (dk_at dksX4_readTarget_1 4 rfl rfl)
theorem dX4_readTarget_30 : decode cX4_readTarget 30 = .ok (.iconst 0, 1) := dk_3 (dk_at dksX4_readTarget_1 7 rfl rfl)
theorem dX4_readTarget_31 : decode cX4_readTarget 31 = .ok (.invokevirtual 178, 3) := dk_182 0 178 (dk_at dksX4_readTarget_1 8 rfl rfl)
theorem dX4_readTarget_34 : decode cX4_readTarget 34 = .ok (.aload_n 0, 1) := dk_42 (dk_at dksX4_readTarget_1 11 rfl rfl)
theorem dX4_readTarget_35 : decode cX4_readTarget 35 = .ok (.invokevirtual 182, 3) := dk_182 0 182 (dk_at dksX4_readTarget_1 12 rfl rfl)
theorem dX4_readTarget_38 : decode cX4_readTarget 38 = .ok (.aload_n 0, 1) := dk_42 (dk_at dksX4_readTarget_1 15 rfl rfl)
theorem dX4_readTarget_39 : decode cX4_readTarget 39 = .ok (.invokevirtual 150, 3) := dk_182 0 150 (dk_at dksX4_readTarget_1 16 rfl rfl)
theorem dX4_readTarget_42 : decode cX4_readTarget 42 = .ok (.ifCond .ne 4, 3) := dk_154 0 4 (dk_at dksX4_readTarget_1 19 rfl rfl)
theorem dX4_readTarget_45 : decode cX4_readTarget 45 = .ok (.return_, 1) := dk_177 (dk_at dksX4_readTarget_1 22 rfl rfl)
theorem dX4_readTarget_46 : decode cX4_readTarget 46 = .ok (.aload_n 0, 1) := dk_42 (dk_at dksX4_readTarget_1 23 rfl rfl)
theorem dX4_readTarget_47 : decode cX4_readTarget 47 = .ok (.aload_n 0, 1) := dk_42 (dk_at dksX4_readTarget_2 0 rfl rfl)
theorem dX4_readTarget_48 : decode cX4_readTarget 48 = .ok (.getfield 34, 3) := dk_180 0 34 (dk_at dksX4_readTarget_2 1 rfl rfl)
theorem dX4_readTarget_51 : decode cX4_readTarget 51 = .ok (.iconst 3, 1) := dk_6 (dk_at dksX4_readTarget_2 4 rfl rfl)
theorem dX4_readTarget_52 : decode cX4_readTarget 52 = .ok (.iload_n 2, 1) := dk_28 (dk_at dksX4_readTarget_2 5 rfl rfl)
theorem dX4_readTarget_53 : decode cX4_readTarget 53 = .ok (.imul, 1) := dk_104 (dk_at dksX4_readTarget_2 6 rfl rfl)
theorem dX4_readTarget_54 : decode cX4_readTarget 54 = .ok (.iaload, 1) := dk_46 (dk_at dksX4_readTarget_2 7 rfl rfl)
theorem dX4_readTarget_55 : decode cX4_readTarget 55 = .ok (.aload_n 0, 1) := dk_42 (dk_at dksX4_readTarget_2 8 rfl rfl)
theorem dX4_readTarget_56 : decode cX4_readTarget 56 = .ok (.getfield 34, 3) := dk_180 0 34 (dk_at dksX4_readTarget_2 9 rfl rfl)
theorem dX4_readTarget_59 : decode cX4_readTarget 59 = .ok (.iconst 3, 1) := dk_6 (dk_at dksX4_readTarget_2 12 rfl rfl)
theorem dX4_readTarget_60 : decode cX4_readTarget 60 = .ok (.iload_n 2, 1) := dk_28 (dk_at dksX4_readTarget_2 13 rfl rfl)
theorem dX4_readTarget_61 : decode cX4_readTarget 61 = .ok (.imul, 1) := dk_104 (dk_at dksX4_readTarget_2 14 rfl rfl)
theorem dX4_readTarget_62 : decode cX4_readTarget 62 = .ok (.iconst 1, 1) := dk_4 (dk_at dksX4_readTarget_2 15 rfl rfl)
theorem dX4_readTarget_63 : decode cX4_readTarget 63 = .ok (.iadd, 1) := dk_96 (dk_at dksX4_readTarget_2 16 rfl rfl)
theorem dX4_readTarget_64 : decode cX4_readTarget 64 = .ok (.iaload, 1) := dk_46 (dk_at dksX4_readTarget_2 17 rfl rfl)
theorem dX4_readTarget_65 : decode cX4_readTarget 65 = .ok (.invokevirtual 188, 3) := dk_182 0 188 (dk_at dksX4_readTarget_2 18 rfl rfl)
theorem dX4_readTarget_68 : decode cX4_readTarget 68 = .ok (.istore_n 3, 1) := dk_62 (dk_at dksX4_readTarget_2 21 rfl rfl)
theorem dX4_readTarget_69 : decode cX4_readTarget 69 = .ok (.aload_n 0, 1) := dk_42 (dk_at dksX4_readTarget_2 22 rfl rfl)
theorem dX4_readTarget_70 : decode cX4_readTarget 70 = .ok (.invokevirtual 150, 3) := dk_182 0 150 (dk_at dksX4_readTarget_3 0 rfl rfl)
theorem dX4_readTarget_73 : decode cX4_readTarget 73 = .ok (.ifCond .ne 4, 3) := dk_154 0 4 (dk_at dksX4_readTarget_3 3 rfl rfl)
theorem dX4_readTarget_76 : decode cX4_readTarget 76 = .ok (.return_, 1) := dk_177 (dk_at dksX4_readTarget_3 6 rfl rfl)
theorem dX4_readTarget_77 : decode cX4_readTarget 77 = .ok (.aload_n 0, 1) := dk_42 (dk_at dksX4_readTarget_3 7 rfl rfl)
theorem dX4_readTarget_78 : decode cX4_readTarget 78 = .ok (.getfield 7, 3) := dk_180 0 7 (dk_at dksX4_readTarget_3 8 rfl rfl)
theorem dX4_readTarget_81 : decode cX4_readTarget 81 = .ok (.iload_n 1, 1) := dk_27 (dk_at dksX4_readTarget_3 11 rfl rfl)
theorem dX4_readTarget_82 : decode cX4_readTarget 82 = .ok (.iconst 2, 1) := dk_5 (dk_at dksX4_readTarget_3 12 rfl rfl)
theorem dX4_readTarget_83 : decode cX4_readTarget 83 = .ok (.iadd, 1) := dk_96 (dk_at dksX4_readTarget_3 13 rfl rfl)
theorem dX4_readTarget_84 : decode cX4_readTarget 84 = .ok (.dup2, 1) := dk_92 (dk_at dksX4_readTarget_3 14 rfl rfl)
theorem dX4_readTarget_85 : decode cX4_readTarget 85 = .ok (.iaload, 1) := dk_46 (dk_at dksX4_readTarget_3 15 rfl rfl)
theorem dX4_readTarget_86 : decode cX4_readTarget 86 = .ok (.iconst 1, 1) := dk_4 (dk_at dksX4_readTarget_3 16 rfl rfl)
theorem dX4_readTarget_87 : decode cX4_readTarget 87 = .ok (.iload_n 2, 1) := dk_28 (dk_at dksX4_readTarget_3 17 rfl rfl)
theorem dX4_readTarget_88 : decode cX4_readTarget 88 = .ok (.ishl, 1) := dk_120 (dk_at dksX4_readTarget_3 18 rfl rfl)
theorem dX4_readTarget_89 : decode cX4_readTarget 89 = .ok (.ior, 1) := dk_128 (dk_at dksX4_readTarget_3 19 rfl rfl)
theorem dX4_readTarget_90 : decode cX4_readTarget 90 = .ok (.iastore, 1) := dk_79 (dk_at dksX4_readTarget_3 20 rfl rfl)
theorem dX4_readTarget_91 : decode cX4_readTarget 91 = .ok (.aload_n 0, 1) := dk_42 (dk_at dksX4_readTarget_3 21 rfl rfl)
theorem dX4_readTarget_92 : decode cX4_readTarget 92 = .ok (.getfield 7, 3) := dk_180 0 7 (dk_at dksX4_readTarget_4 0 rfl rfl)
theorem dX4_readTarget_95 : decode cX4_readTarget 95 = .ok (.iload_n 1, 1) := dk_27 (dk_at dksX4_readTarget_4 3 rfl rfl)
theorem dX4_readTarget_96 : decode cX4_readTarget 96 = .ok (.iconst 3, 1) := dk_6 (dk_at dksX4_readTarget_4 4 rfl rfl)
theorem dX4_readTarget_97 : decode cX4_readTarget 97 = .ok (.iadd, 1) := dk_96 (dk_at dksX4_readTarget_4 5 rfl rfl)
theorem dX4_readTarget_98 : decode cX4_readTarget 98 = .ok (.iload_n 2, 1) := dk_28 (dk_at dksX4_readTarget_4 6 rfl rfl)
theorem dX4_readTarget_99 : decode cX4_readTarget 99 = .ok (.iadd, 1) := dk_96 (dk_at dksX4_readTarget_4 7 rfl rfl)
theorem dX4_readTarget_100 : decode cX4_readTarget 100 = .ok (.iload_n 3, 1) := dk_29 (dk_at dksX4_readTarget_4 8 rfl rfl)
theorem dX4_readTarget_101 : decode cX4_readTarget 101 = .ok (.iastore, 1) := dk_79 (dk_at dksX4_readTarget_4 9 rfl rfl)
theorem dX4_readTarget_102 : decode cX4_readTarget 102 = .ok (.return_, 1) := dk_177 (dk_at dksX4_readTarget_4 10 rfl rfl)
abbrev cX4_readWall : ByteArray := prog_17_method_42_code
def yX4_readWall : MethodName := ⟨RX4, "readWall", "()V"⟩
def dkwX4_readWall_7 : List UInt8 := [180, 0, 7, 17, 1, 79, 27, 4, 96, 79, 177]
abbrev dktX4_readWall_7 : List UInt8 := dkwX4_readWall_7 ++ []
def dkwX4_readWall_6 : List UInt8 := [180, 0, 7, 28, 29, 96, 4, 96, 46, 17, 39, 15, 182, 0, 188, 79, 132, 3, 3, 167, 255, 143, 42]
abbrev dktX4_readWall_6 : List UInt8 := dkwX4_readWall_6 ++ dktX4_readWall_7
def dkwX4_readWall_5 : List UInt8 := [4, 96, 42, 17, 216, 241, 17, 39, 15, 182, 0, 188, 79, 42, 180, 0, 7, 28, 29, 96, 5, 96, 42, 42]
abbrev dktX4_readWall_5 : List UInt8 := dkwX4_readWall_5 ++ dktX4_readWall_6
def dkwX4_readWall_4 : List UInt8 := [182, 0, 178, 42, 182, 0, 182, 42, 180, 0, 7, 28, 29, 96, 21, 4, 79, 42, 180, 0, 7, 28, 29, 96]
abbrev dktX4_readWall_4 : List UInt8 := dkwX4_readWall_4 ++ dktX4_readWall_5
def dkwX4_readWall_3 : List UInt8 := [159, 0, 22, 29, 153, 0, 14, 21, 4, 42, 180, 0, 7, 28, 46, 159, 0, 7, 4, 167, 0, 4, 3]
abbrev dktX4_readWall_3 : List UInt8 := dkwX4_readWall_3 ++ dktX4_readWall_4
def dkwX4_readWall_2 : List UInt8 := [16, 6, 162, 0, 113, 42, 182, 0, 150, 153, 0, 106, 42, 182, 0, 185, 54, 4, 42, 21, 4, 2]
abbrev dktX4_readWall_2 : List UInt8 := dkwX4_readWall_2 ++ dktX4_readWall_3
def dkwX4_readWall_1 : List UInt8 := [42, 182, 0, 182, 42, 182, 0, 150, 154, 0, 4, 177, 17, 1, 80, 16, 6, 27, 104, 96, 61, 3, 62, 29]
abbrev dktX4_readWall_1 : List UInt8 := dkwX4_readWall_1 ++ dktX4_readWall_2
def dkwX4_readWall_0 : List UInt8 := [42, 180, 0, 7, 17, 1, 79, 46, 60, 42, 27, 16, 6, 162, 0, 7, 4, 167, 0, 4, 3, 182, 0, 178]
abbrev dktX4_readWall_0 : List UInt8 := dkwX4_readWall_0 ++ dktX4_readWall_1
theorem dksX4_readWall_0 : cX4_readWall.data.toList.drop 0 = dktX4_readWall_0 := by decide +kernel
theorem dksX4_readWall_1 : cX4_readWall.data.toList.drop 24 = dktX4_readWall_1 := dk_seg dksX4_readWall_0 24 rfl rfl
theorem dksX4_readWall_2 : cX4_readWall.data.toList.drop 48 = dktX4_readWall_2 := dk_seg dksX4_readWall_1 24 rfl rfl
theorem dksX4_readWall_3 : cX4_readWall.data.toList.drop 70 = dktX4_readWall_3 := dk_seg dksX4_readWall_2 22 rfl rfl
theorem dksX4_readWall_4 : cX4_readWall.data.toList.drop 93 = dktX4_readWall_4 := dk_seg dksX4_readWall_3 23 rfl rfl
theorem dksX4_readWall_5 : cX4_readWall.data.toList.drop 117 = dktX4_readWall_5 := dk_seg dksX4_readWall_4 24 rfl rfl
theorem dksX4_readWall_6 : cX4_readWall.data.toList.drop 141 = dktX4_readWall_6 := dk_seg dksX4_readWall_5 24 rfl rfl
theorem dksX4_readWall_7 : cX4_readWall.data.toList.drop 164 = dktX4_readWall_7 := dk_seg dksX4_readWall_6 23 rfl rfl
theorem dX4_readWall_0 : decode cX4_readWall 0 = .ok (.aload_n 0, 1) := dk_42 (dk_at dksX4_readWall_0 0 rfl rfl)
theorem dX4_readWall_1 : decode cX4_readWall 1 = .ok (.getfield 7, 3) := dk_180 0 7 (dk_at dksX4_readWall_0 1 rfl rfl)
theorem dX4_readWall_4 : decode cX4_readWall 4 = .ok (.sipush 335, 3) := dk_17 1 79 (dk_at dksX4_readWall_0 4 rfl rfl)
theorem dX4_readWall_7 : decode cX4_readWall 7 = .ok (.iaload, 1) := dk_46 (dk_at dksX4_readWall_0 7 rfl rfl)
theorem dX4_readWall_8 : decode cX4_readWall 8 = .ok (.istore_n 1, 1) := dk_60 (dk_at dksX4_readWall_0 8 rfl rfl)
theorem dX4_readWall_9 : decode cX4_readWall 9 = .ok (.aload_n 0, 1) := dk_42 (dk_at dksX4_readWall_0 9 rfl rfl)
theorem dX4_readWall_10 : decode cX4_readWall 10 = .ok (.iload_n 1, 1) := dk_27 (dk_at dksX4_readWall_0 10 rfl rfl)
theorem dX4_readWall_11 : decode cX4_readWall 11 = .ok (.bipush 6, 2) := dk_16 6 (dk_at dksX4_readWall_0 11 rfl rfl)
theorem dX4_readWall_13 : decode cX4_readWall 13 = .ok (.if_icmp .ge 7, 3) := dk_162 0 7 (dk_at dksX4_readWall_0 13 rfl rfl)
theorem dX4_readWall_16 : decode cX4_readWall 16 = .ok (.iconst 1, 1) := dk_4 (dk_at dksX4_readWall_0 16 rfl rfl)
theorem dX4_readWall_17 : decode cX4_readWall 17 = .ok (.goto 4, 3) := dk_167 0 4 (dk_at dksX4_readWall_0 17 rfl rfl)
theorem dX4_readWall_20 : decode cX4_readWall 20 = .ok (.iconst 0, 1) := dk_3 (dk_at dksX4_readWall_0 20 rfl rfl)
theorem dX4_readWall_21 : decode cX4_readWall 21 = .ok (.invokevirtual 178, 3) := dk_182 0 178 (dk_at dksX4_readWall_0 21 rfl rfl)
theorem dX4_readWall_24 : decode cX4_readWall 24 = .ok (.aload_n 0, 1) := dk_42 (dk_at dksX4_readWall_1 0 rfl rfl)
theorem dX4_readWall_25 : decode cX4_readWall 25 = .ok (.invokevirtual 182, 3) := dk_182 0 182 (dk_at dksX4_readWall_1 1 rfl rfl)
theorem dX4_readWall_28 : decode cX4_readWall 28 = .ok (.aload_n 0, 1) := dk_42 (dk_at dksX4_readWall_1 4 rfl rfl)
theorem dX4_readWall_29 : decode cX4_readWall 29 = .ok (.invokevirtual 150, 3) := dk_182 0 150 (dk_at dksX4_readWall_1 5 rfl rfl)
theorem dX4_readWall_32 : decode cX4_readWall 32 = .ok (.ifCond .ne 4, 3) := dk_154 0 4 (dk_at dksX4_readWall_1 8 rfl rfl)
theorem dX4_readWall_35 : decode cX4_readWall 35 = .ok (.return_, 1) := dk_177 (dk_at dksX4_readWall_1 11 rfl rfl)
theorem dX4_readWall_36 : decode cX4_readWall 36 = .ok (.sipush 336, 3) := dk_17 1 80 (dk_at dksX4_readWall_1 12 rfl rfl)
theorem dX4_readWall_39 : decode cX4_readWall 39 = .ok (.bipush 6, 2) := dk_16 6 (dk_at dksX4_readWall_1 15 rfl rfl)
theorem dX4_readWall_41 : decode cX4_readWall 41 = .ok (.iload_n 1, 1) := dk_27 (dk_at dksX4_readWall_1 17 rfl rfl)
theorem dX4_readWall_42 : decode cX4_readWall 42 = .ok (.imul, 1) := dk_104 (dk_at dksX4_readWall_1 18 rfl rfl)
theorem dX4_readWall_43 : decode cX4_readWall 43 = .ok (.iadd, 1) := dk_96 (dk_at dksX4_readWall_1 19 rfl rfl)
theorem dX4_readWall_44 : decode cX4_readWall 44 = .ok (.istore_n 2, 1) := dk_61 (dk_at dksX4_readWall_1 20 rfl rfl)
theorem dX4_readWall_45 : decode cX4_readWall 45 = .ok (.iconst 0, 1) := dk_3 (dk_at dksX4_readWall_1 21 rfl rfl)
theorem dX4_readWall_46 : decode cX4_readWall 46 = .ok (.istore_n 3, 1) := dk_62 (dk_at dksX4_readWall_1 22 rfl rfl)
theorem dX4_readWall_47 : decode cX4_readWall 47 = .ok (.iload_n 3, 1) := dk_29 (dk_at dksX4_readWall_1 23 rfl rfl)
theorem dX4_readWall_48 : decode cX4_readWall 48 = .ok (.bipush 6, 2) := dk_16 6 (dk_at dksX4_readWall_2 0 rfl rfl)
theorem dX4_readWall_50 : decode cX4_readWall 50 = .ok (.if_icmp .ge 113, 3) := dk_162 0 113 (dk_at dksX4_readWall_2 2 rfl rfl)
theorem dX4_readWall_53 : decode cX4_readWall 53 = .ok (.aload_n 0, 1) := dk_42 (dk_at dksX4_readWall_2 5 rfl rfl)
theorem dX4_readWall_54 : decode cX4_readWall 54 = .ok (.invokevirtual 150, 3) := dk_182 0 150 (dk_at dksX4_readWall_2 6 rfl rfl)
theorem dX4_readWall_57 : decode cX4_readWall 57 = .ok (.ifCond .eq 106, 3) := dk_153 0 106 (dk_at dksX4_readWall_2 9 rfl rfl)
theorem dX4_readWall_60 : decode cX4_readWall 60 = .ok (.aload_n 0, 1) := dk_42 (dk_at dksX4_readWall_2 12 rfl rfl)
theorem dX4_readWall_61 : decode cX4_readWall 61 = .ok (.invokevirtual 185, 3) := dk_182 0 185 (dk_at dksX4_readWall_2 13 rfl rfl)
theorem dX4_readWall_64 : decode cX4_readWall 64 = .ok (.istore 4, 2) := dk_54 4 (dk_at dksX4_readWall_2 16 rfl rfl)
theorem dX4_readWall_66 : decode cX4_readWall 66 = .ok (.aload_n 0, 1) := dk_42 (dk_at dksX4_readWall_2 18 rfl rfl)
theorem dX4_readWall_67 : decode cX4_readWall 67 = .ok (.iload 4, 2) := dk_21 4 (dk_at dksX4_readWall_2 19 rfl rfl)
theorem dX4_readWall_69 : decode cX4_readWall 69 = .ok (.iconst (-1), 1) := dk_2 (dk_at dksX4_readWall_2 21 rfl rfl)
theorem dX4_readWall_70 : decode cX4_readWall 70 = .ok (.if_icmp .eq 22, 3) := dk_159 0 22 (dk_at dksX4_readWall_3 0 rfl rfl)
theorem dX4_readWall_73 : decode cX4_readWall 73 = .ok (.iload_n 3, 1) := dk_29 (dk_at dksX4_readWall_3 3 rfl rfl)
theorem dX4_readWall_74 : decode cX4_readWall 74 = .ok (.ifCond .eq 14, 3) := dk_153 0 14 (dk_at dksX4_readWall_3 4 rfl rfl)
theorem dX4_readWall_77 : decode cX4_readWall 77 = .ok (.iload 4, 2) := dk_21 4 (dk_at dksX4_readWall_3 7 rfl rfl)
theorem dX4_readWall_79 : decode cX4_readWall 79 = .ok (.aload_n 0, 1) := dk_42 (dk_at dksX4_readWall_3 9 rfl rfl)
theorem dX4_readWall_80 : decode cX4_readWall 80 = .ok (.getfield 7, 3) := dk_180 0 7 (dk_at dksX4_readWall_3 10 rfl rfl)
theorem dX4_readWall_83 : decode cX4_readWall 83 = .ok (.iload_n 2, 1) := dk_28 (dk_at dksX4_readWall_3 13 rfl rfl)
theorem dX4_readWall_84 : decode cX4_readWall 84 = .ok (.iaload, 1) := dk_46 (dk_at dksX4_readWall_3 14 rfl rfl)
theorem dX4_readWall_85 : decode cX4_readWall 85 = .ok (.if_icmp .eq 7, 3) := dk_159 0 7 (dk_at dksX4_readWall_3 15 rfl rfl)
theorem dX4_readWall_88 : decode cX4_readWall 88 = .ok (.iconst 1, 1) := dk_4 (dk_at dksX4_readWall_3 18 rfl rfl)
theorem dX4_readWall_89 : decode cX4_readWall 89 = .ok (.goto 4, 3) := dk_167 0 4 (dk_at dksX4_readWall_3 19 rfl rfl)
theorem dX4_readWall_92 : decode cX4_readWall 92 = .ok (.iconst 0, 1) := dk_3 (dk_at dksX4_readWall_3 22 rfl rfl)
theorem dX4_readWall_93 : decode cX4_readWall 93 = .ok (.invokevirtual 178, 3) := dk_182 0 178 (dk_at dksX4_readWall_4 0 rfl rfl)
theorem dX4_readWall_96 : decode cX4_readWall 96 = .ok (.aload_n 0, 1) := dk_42 (dk_at dksX4_readWall_4 3 rfl rfl)
theorem dX4_readWall_97 : decode cX4_readWall 97 = .ok (.invokevirtual 182, 3) := dk_182 0 182 (dk_at dksX4_readWall_4 4 rfl rfl)
theorem dX4_readWall_100 : decode cX4_readWall 100 = .ok (.aload_n 0, 1) := dk_42 (dk_at dksX4_readWall_4 7 rfl rfl)
theorem dX4_readWall_101 : decode cX4_readWall 101 = .ok (.getfield 7, 3) := dk_180 0 7 (dk_at dksX4_readWall_4 8 rfl rfl)
theorem dX4_readWall_104 : decode cX4_readWall 104 = .ok (.iload_n 2, 1) := dk_28 (dk_at dksX4_readWall_4 11 rfl rfl)
theorem dX4_readWall_105 : decode cX4_readWall 105 = .ok (.iload_n 3, 1) := dk_29 (dk_at dksX4_readWall_4 12 rfl rfl)
theorem dX4_readWall_106 : decode cX4_readWall 106 = .ok (.iadd, 1) := dk_96 (dk_at dksX4_readWall_4 13 rfl rfl)
theorem dX4_readWall_107 : decode cX4_readWall 107 = .ok (.iload 4, 2) := dk_21 4 (dk_at dksX4_readWall_4 14 rfl rfl)
theorem dX4_readWall_109 : decode cX4_readWall 109 = .ok (.iastore, 1) := dk_79 (dk_at dksX4_readWall_4 16 rfl rfl)
theorem dX4_readWall_110 : decode cX4_readWall 110 = .ok (.aload_n 0, 1) := dk_42 (dk_at dksX4_readWall_4 17 rfl rfl)
theorem dX4_readWall_111 : decode cX4_readWall 111 = .ok (.getfield 7, 3) := dk_180 0 7 (dk_at dksX4_readWall_4 18 rfl rfl)
theorem dX4_readWall_114 : decode cX4_readWall 114 = .ok (.iload_n 2, 1) := dk_28 (dk_at dksX4_readWall_4 21 rfl rfl)
theorem dX4_readWall_115 : decode cX4_readWall 115 = .ok (.iload_n 3, 1) := dk_29 (dk_at dksX4_readWall_4 22 rfl rfl)
theorem dX4_readWall_116 : decode cX4_readWall 116 = .ok (.iadd, 1) := dk_96 (dk_at dksX4_readWall_4 23 rfl rfl)
theorem dX4_readWall_117 : decode cX4_readWall 117 = .ok (.iconst 1, 1) := dk_4 (dk_at dksX4_readWall_5 0 rfl rfl)
theorem dX4_readWall_118 : decode cX4_readWall 118 = .ok (.iadd, 1) := dk_96 (dk_at dksX4_readWall_5 1 rfl rfl)
theorem dX4_readWall_119 : decode cX4_readWall 119 = .ok (.aload_n 0, 1) := dk_42 (dk_at dksX4_readWall_5 2 rfl rfl)
theorem dX4_readWall_120 : decode cX4_readWall 120 = .ok (.sipush (-9999), 3) := dk_17 216 241 (dk_at dksX4_readWall_5 3 rfl rfl)
theorem dX4_readWall_123 : decode cX4_readWall 123 = .ok (.sipush 9999, 3) := dk_17 39 15 (dk_at dksX4_readWall_5 6 rfl rfl)
theorem dX4_readWall_126 : decode cX4_readWall 126 = .ok (.invokevirtual 188, 3) := dk_182 0 188 (dk_at dksX4_readWall_5 9 rfl rfl)
theorem dX4_readWall_129 : decode cX4_readWall 129 = .ok (.iastore, 1) := dk_79 (dk_at dksX4_readWall_5 12 rfl rfl)
theorem dX4_readWall_130 : decode cX4_readWall 130 = .ok (.aload_n 0, 1) := dk_42 (dk_at dksX4_readWall_5 13 rfl rfl)
theorem dX4_readWall_131 : decode cX4_readWall 131 = .ok (.getfield 7, 3) := dk_180 0 7 (dk_at dksX4_readWall_5 14 rfl rfl)
theorem dX4_readWall_134 : decode cX4_readWall 134 = .ok (.iload_n 2, 1) := dk_28 (dk_at dksX4_readWall_5 17 rfl rfl)
theorem dX4_readWall_135 : decode cX4_readWall 135 = .ok (.iload_n 3, 1) := dk_29 (dk_at dksX4_readWall_5 18 rfl rfl)
theorem dX4_readWall_136 : decode cX4_readWall 136 = .ok (.iadd, 1) := dk_96 (dk_at dksX4_readWall_5 19 rfl rfl)
theorem dX4_readWall_137 : decode cX4_readWall 137 = .ok (.iconst 2, 1) := dk_5 (dk_at dksX4_readWall_5 20 rfl rfl)
theorem dX4_readWall_138 : decode cX4_readWall 138 = .ok (.iadd, 1) := dk_96 (dk_at dksX4_readWall_5 21 rfl rfl)
theorem dX4_readWall_139 : decode cX4_readWall 139 = .ok (.aload_n 0, 1) := dk_42 (dk_at dksX4_readWall_5 22 rfl rfl)
theorem dX4_readWall_140 : decode cX4_readWall 140 = .ok (.aload_n 0, 1) := dk_42 (dk_at dksX4_readWall_5 23 rfl rfl)
theorem dX4_readWall_141 : decode cX4_readWall 141 = .ok (.getfield 7, 3) := dk_180 0 7 (dk_at dksX4_readWall_6 0 rfl rfl)
theorem dX4_readWall_144 : decode cX4_readWall 144 = .ok (.iload_n 2, 1) := dk_28 (dk_at dksX4_readWall_6 3 rfl rfl)
theorem dX4_readWall_145 : decode cX4_readWall 145 = .ok (.iload_n 3, 1) := dk_29 (dk_at dksX4_readWall_6 4 rfl rfl)
theorem dX4_readWall_146 : decode cX4_readWall 146 = .ok (.iadd, 1) := dk_96 (dk_at dksX4_readWall_6 5 rfl rfl)
theorem dX4_readWall_147 : decode cX4_readWall 147 = .ok (.iconst 1, 1) := dk_4 (dk_at dksX4_readWall_6 6 rfl rfl)
theorem dX4_readWall_148 : decode cX4_readWall 148 = .ok (.iadd, 1) := dk_96 (dk_at dksX4_readWall_6 7 rfl rfl)
theorem dX4_readWall_149 : decode cX4_readWall 149 = .ok (.iaload, 1) := dk_46 (dk_at dksX4_readWall_6 8 rfl rfl)
theorem dX4_readWall_150 : decode cX4_readWall 150 = .ok (.sipush 9999, 3) := dk_17 39 15 (dk_at dksX4_readWall_6 9 rfl rfl)
theorem dX4_readWall_153 : decode cX4_readWall 153 = .ok (.invokevirtual 188, 3) := dk_182 0 188 (dk_at dksX4_readWall_6 12 rfl rfl)
theorem dX4_readWall_156 : decode cX4_readWall 156 = .ok (.iastore, 1) := dk_79 (dk_at dksX4_readWall_6 15 rfl rfl)
theorem dX4_readWall_157 : decode cX4_readWall 157 = .ok (.iinc 3 3, 3) := dk_132 3 3 (dk_at dksX4_readWall_6 16 rfl rfl)
theorem dX4_readWall_160 : decode cX4_readWall 160 = .ok (.goto (-113), 3) := dk_167 255 143 (dk_at dksX4_readWall_6 19 rfl rfl)
theorem dX4_readWall_163 : decode cX4_readWall 163 = .ok (.aload_n 0, 1) := dk_42 (dk_at dksX4_readWall_6 22 rfl rfl)
theorem dX4_readWall_164 : decode cX4_readWall 164 = .ok (.getfield 7, 3) := dk_180 0 7 (dk_at dksX4_readWall_7 0 rfl rfl)
theorem dX4_readWall_167 : decode cX4_readWall 167 = .ok (.sipush 335, 3) := dk_17 1 79 (dk_at dksX4_readWall_7 3 rfl rfl)
theorem dX4_readWall_170 : decode cX4_readWall 170 = .ok (.iload_n 1, 1) := dk_27 (dk_at dksX4_readWall_7 6 rfl rfl)
theorem dX4_readWall_171 : decode cX4_readWall 171 = .ok (.iconst 1, 1) := dk_4 (dk_at dksX4_readWall_7 7 rfl rfl)
theorem dX4_readWall_172 : decode cX4_readWall 172 = .ok (.iadd, 1) := dk_96 (dk_at dksX4_readWall_7 8 rfl rfl)
theorem dX4_readWall_173 : decode cX4_readWall 173 = .ok (.iastore, 1) := dk_79 (dk_at dksX4_readWall_7 9 rfl rfl)
theorem dX4_readWall_174 : decode cX4_readWall 174 = .ok (.return_, 1) := dk_177 (dk_at dksX4_readWall_7 10 rfl rfl)
abbrev cX4_readPass : ByteArray := prog_17_method_43_code
def yX4_readPass : MethodName := ⟨RX4, "readPass", "()V"⟩
def dkwX4_readPass_4 : List UInt8 := [89, 180, 0, 166, 4, 96, 181, 0, 166, 177]
abbrev dktX4_readPass_4 : List UInt8 := dkwX4_readPass_4 ++ []
def dkwX4_readPass_3 : List UInt8 := [42, 180, 0, 166, 104, 4, 96, 28, 79, 42, 180, 0, 37, 6, 42, 180, 0, 166, 104, 5, 96, 29, 79, 42]
abbrev dktX4_readPass_3 : List UInt8 := dkwX4_readPass_3 ++ dktX4_readPass_4
def dkwX4_readPass_2 : List UInt8 := [182, 0, 150, 154, 0, 4, 177, 42, 180, 0, 37, 6, 42, 180, 0, 166, 104, 27, 79, 42, 180, 0, 37, 6]
abbrev dktX4_readPass_2 : List UInt8 := dkwX4_readPass_2 ++ dktX4_readPass_3
def dkwX4_readPass_1 : List UInt8 := [16, 9, 182, 0, 191, 60, 42, 4, 16, 9, 182, 0, 191, 61, 42, 3, 17, 1, 244, 182, 0, 191, 62, 42]
abbrev dktX4_readPass_1 : List UInt8 := dkwX4_readPass_1 ++ dktX4_readPass_2
def dkwX4_readPass_0 : List UInt8 := [42, 42, 180, 0, 166, 7, 162, 0, 7, 4, 167, 0, 4, 3, 182, 0, 178, 42, 182, 0, 182, 42, 4]
abbrev dktX4_readPass_0 : List UInt8 := dkwX4_readPass_0 ++ dktX4_readPass_1
theorem dksX4_readPass_0 : cX4_readPass.data.toList.drop 0 = dktX4_readPass_0 := by decide +kernel
theorem dksX4_readPass_1 : cX4_readPass.data.toList.drop 23 = dktX4_readPass_1 := dk_seg dksX4_readPass_0 23 rfl rfl
theorem dksX4_readPass_2 : cX4_readPass.data.toList.drop 47 = dktX4_readPass_2 := dk_seg dksX4_readPass_1 24 rfl rfl
theorem dksX4_readPass_3 : cX4_readPass.data.toList.drop 71 = dktX4_readPass_3 := dk_seg dksX4_readPass_2 24 rfl rfl
theorem dksX4_readPass_4 : cX4_readPass.data.toList.drop 95 = dktX4_readPass_4 := dk_seg dksX4_readPass_3 24 rfl rfl
theorem dX4_readPass_0 : decode cX4_readPass 0 = .ok (.aload_n 0, 1) := dk_42 (dk_at dksX4_readPass_0 0 rfl rfl)
theorem dX4_readPass_1 : decode cX4_readPass 1 = .ok (.aload_n 0, 1) := dk_42 (dk_at dksX4_readPass_0 1 rfl rfl)
theorem dX4_readPass_2 : decode cX4_readPass 2 = .ok (.getfield 166, 3) := dk_180 0 166 (dk_at dksX4_readPass_0 2 rfl rfl)
theorem dX4_readPass_5 : decode cX4_readPass 5 = .ok (.iconst 4, 1) := dk_7 (dk_at dksX4_readPass_0 5 rfl rfl)
theorem dX4_readPass_6 : decode cX4_readPass 6 = .ok (.if_icmp .ge 7, 3) := dk_162 0 7 (dk_at dksX4_readPass_0 6 rfl rfl)
theorem dX4_readPass_9 : decode cX4_readPass 9 = .ok (.iconst 1, 1) := dk_4 (dk_at dksX4_readPass_0 9 rfl rfl)
theorem dX4_readPass_10 : decode cX4_readPass 10 = .ok (.goto 4, 3) := dk_167 0 4 (dk_at dksX4_readPass_0 10 rfl rfl)
theorem dX4_readPass_13 : decode cX4_readPass 13 = .ok (.iconst 0, 1) := dk_3 (dk_at dksX4_readPass_0 13 rfl rfl)
theorem dX4_readPass_14 : decode cX4_readPass 14 = .ok (.invokevirtual 178, 3) := dk_182 0 178 (dk_at dksX4_readPass_0 14 rfl rfl)
theorem dX4_readPass_17 : decode cX4_readPass 17 = .ok (.aload_n 0, 1) := dk_42 (dk_at dksX4_readPass_0 17 rfl rfl)
theorem dX4_readPass_18 : decode cX4_readPass 18 = .ok (.invokevirtual 182, 3) := dk_182 0 182 (dk_at dksX4_readPass_0 18 rfl rfl)
theorem dX4_readPass_21 : decode cX4_readPass 21 = .ok (.aload_n 0, 1) := dk_42 (dk_at dksX4_readPass_0 21 rfl rfl)
theorem dX4_readPass_22 : decode cX4_readPass 22 = .ok (.iconst 1, 1) := dk_4 (dk_at dksX4_readPass_0 22 rfl rfl)
theorem dX4_readPass_23 : decode cX4_readPass 23 = .ok (.bipush 9, 2) := dk_16 9 (dk_at dksX4_readPass_1 0 rfl rfl)
theorem dX4_readPass_25 : decode cX4_readPass 25 = .ok (.invokevirtual 191, 3) := dk_182 0 191 (dk_at dksX4_readPass_1 2 rfl rfl)
theorem dX4_readPass_28 : decode cX4_readPass 28 = .ok (.istore_n 1, 1) := dk_60 (dk_at dksX4_readPass_1 5 rfl rfl)
theorem dX4_readPass_29 : decode cX4_readPass 29 = .ok (.aload_n 0, 1) := dk_42 (dk_at dksX4_readPass_1 6 rfl rfl)
theorem dX4_readPass_30 : decode cX4_readPass 30 = .ok (.iconst 1, 1) := dk_4 (dk_at dksX4_readPass_1 7 rfl rfl)
theorem dX4_readPass_31 : decode cX4_readPass 31 = .ok (.bipush 9, 2) := dk_16 9 (dk_at dksX4_readPass_1 8 rfl rfl)
theorem dX4_readPass_33 : decode cX4_readPass 33 = .ok (.invokevirtual 191, 3) := dk_182 0 191 (dk_at dksX4_readPass_1 10 rfl rfl)
theorem dX4_readPass_36 : decode cX4_readPass 36 = .ok (.istore_n 2, 1) := dk_61 (dk_at dksX4_readPass_1 13 rfl rfl)
theorem dX4_readPass_37 : decode cX4_readPass 37 = .ok (.aload_n 0, 1) := dk_42 (dk_at dksX4_readPass_1 14 rfl rfl)
theorem dX4_readPass_38 : decode cX4_readPass 38 = .ok (.iconst 0, 1) := dk_3 (dk_at dksX4_readPass_1 15 rfl rfl)
theorem dX4_readPass_39 : decode cX4_readPass 39 = .ok (.sipush 500, 3) := dk_17 1 244 (dk_at dksX4_readPass_1 16 rfl rfl)
theorem dX4_readPass_42 : decode cX4_readPass 42 = .ok (.invokevirtual 191, 3) := dk_182 0 191 (dk_at dksX4_readPass_1 19 rfl rfl)
theorem dX4_readPass_45 : decode cX4_readPass 45 = .ok (.istore_n 3, 1) := dk_62 (dk_at dksX4_readPass_1 22 rfl rfl)
theorem dX4_readPass_46 : decode cX4_readPass 46 = .ok (.aload_n 0, 1) := dk_42 (dk_at dksX4_readPass_1 23 rfl rfl)
theorem dX4_readPass_47 : decode cX4_readPass 47 = .ok (.invokevirtual 150, 3) := dk_182 0 150 (dk_at dksX4_readPass_2 0 rfl rfl)
theorem dX4_readPass_50 : decode cX4_readPass 50 = .ok (.ifCond .ne 4, 3) := dk_154 0 4 (dk_at dksX4_readPass_2 3 rfl rfl)
theorem dX4_readPass_53 : decode cX4_readPass 53 = .ok (.return_, 1) := dk_177 (dk_at dksX4_readPass_2 6 rfl rfl)
theorem dX4_readPass_54 : decode cX4_readPass 54 = .ok (.aload_n 0, 1) := dk_42 (dk_at dksX4_readPass_2 7 rfl rfl)
theorem dX4_readPass_55 : decode cX4_readPass 55 = .ok (.getfield 37, 3) := dk_180 0 37 (dk_at dksX4_readPass_2 8 rfl rfl)
theorem dX4_readPass_58 : decode cX4_readPass 58 = .ok (.iconst 3, 1) := dk_6 (dk_at dksX4_readPass_2 11 rfl rfl)
theorem dX4_readPass_59 : decode cX4_readPass 59 = .ok (.aload_n 0, 1) := dk_42 (dk_at dksX4_readPass_2 12 rfl rfl)
theorem dX4_readPass_60 : decode cX4_readPass 60 = .ok (.getfield 166, 3) := dk_180 0 166 (dk_at dksX4_readPass_2 13 rfl rfl)
theorem dX4_readPass_63 : decode cX4_readPass 63 = .ok (.imul, 1) := dk_104 (dk_at dksX4_readPass_2 16 rfl rfl)
theorem dX4_readPass_64 : decode cX4_readPass 64 = .ok (.iload_n 1, 1) := dk_27 (dk_at dksX4_readPass_2 17 rfl rfl)
theorem dX4_readPass_65 : decode cX4_readPass 65 = .ok (.iastore, 1) := dk_79 (dk_at dksX4_readPass_2 18 rfl rfl)
theorem dX4_readPass_66 : decode cX4_readPass 66 = .ok (.aload_n 0, 1) := dk_42 (dk_at dksX4_readPass_2 19 rfl rfl)
theorem dX4_readPass_67 : decode cX4_readPass 67 = .ok (.getfield 37, 3) := dk_180 0 37 (dk_at dksX4_readPass_2 20 rfl rfl)
theorem dX4_readPass_70 : decode cX4_readPass 70 = .ok (.iconst 3, 1) := dk_6 (dk_at dksX4_readPass_2 23 rfl rfl)
theorem dX4_readPass_71 : decode cX4_readPass 71 = .ok (.aload_n 0, 1) := dk_42 (dk_at dksX4_readPass_3 0 rfl rfl)
theorem dX4_readPass_72 : decode cX4_readPass 72 = .ok (.getfield 166, 3) := dk_180 0 166 (dk_at dksX4_readPass_3 1 rfl rfl)
theorem dX4_readPass_75 : decode cX4_readPass 75 = .ok (.imul, 1) := dk_104 (dk_at dksX4_readPass_3 4 rfl rfl)
theorem dX4_readPass_76 : decode cX4_readPass 76 = .ok (.iconst 1, 1) := dk_4 (dk_at dksX4_readPass_3 5 rfl rfl)
theorem dX4_readPass_77 : decode cX4_readPass 77 = .ok (.iadd, 1) := dk_96 (dk_at dksX4_readPass_3 6 rfl rfl)
theorem dX4_readPass_78 : decode cX4_readPass 78 = .ok (.iload_n 2, 1) := dk_28 (dk_at dksX4_readPass_3 7 rfl rfl)
theorem dX4_readPass_79 : decode cX4_readPass 79 = .ok (.iastore, 1) := dk_79 (dk_at dksX4_readPass_3 8 rfl rfl)
theorem dX4_readPass_80 : decode cX4_readPass 80 = .ok (.aload_n 0, 1) := dk_42 (dk_at dksX4_readPass_3 9 rfl rfl)
theorem dX4_readPass_81 : decode cX4_readPass 81 = .ok (.getfield 37, 3) := dk_180 0 37 (dk_at dksX4_readPass_3 10 rfl rfl)
theorem dX4_readPass_84 : decode cX4_readPass 84 = .ok (.iconst 3, 1) := dk_6 (dk_at dksX4_readPass_3 13 rfl rfl)
theorem dX4_readPass_85 : decode cX4_readPass 85 = .ok (.aload_n 0, 1) := dk_42 (dk_at dksX4_readPass_3 14 rfl rfl)
theorem dX4_readPass_86 : decode cX4_readPass 86 = .ok (.getfield 166, 3) := dk_180 0 166 (dk_at dksX4_readPass_3 15 rfl rfl)
theorem dX4_readPass_89 : decode cX4_readPass 89 = .ok (.imul, 1) := dk_104 (dk_at dksX4_readPass_3 18 rfl rfl)
theorem dX4_readPass_90 : decode cX4_readPass 90 = .ok (.iconst 2, 1) := dk_5 (dk_at dksX4_readPass_3 19 rfl rfl)
theorem dX4_readPass_91 : decode cX4_readPass 91 = .ok (.iadd, 1) := dk_96 (dk_at dksX4_readPass_3 20 rfl rfl)
theorem dX4_readPass_92 : decode cX4_readPass 92 = .ok (.iload_n 3, 1) := dk_29 (dk_at dksX4_readPass_3 21 rfl rfl)
theorem dX4_readPass_93 : decode cX4_readPass 93 = .ok (.iastore, 1) := dk_79 (dk_at dksX4_readPass_3 22 rfl rfl)
theorem dX4_readPass_94 : decode cX4_readPass 94 = .ok (.aload_n 0, 1) := dk_42 (dk_at dksX4_readPass_3 23 rfl rfl)
theorem dX4_readPass_95 : decode cX4_readPass 95 = .ok (.dup, 1) := dk_89 (dk_at dksX4_readPass_4 0 rfl rfl)
theorem dX4_readPass_96 : decode cX4_readPass 96 = .ok (.getfield 166, 3) := dk_180 0 166 (dk_at dksX4_readPass_4 1 rfl rfl)
theorem dX4_readPass_99 : decode cX4_readPass 99 = .ok (.iconst 1, 1) := dk_4 (dk_at dksX4_readPass_4 4 rfl rfl)
theorem dX4_readPass_100 : decode cX4_readPass 100 = .ok (.iadd, 1) := dk_96 (dk_at dksX4_readPass_4 5 rfl rfl)
theorem dX4_readPass_101 : decode cX4_readPass 101 = .ok (.putfield 166, 3) := dk_181 0 166 (dk_at dksX4_readPass_4 6 rfl rfl)
theorem dX4_readPass_104 : decode cX4_readPass 104 = .ok (.return_, 1) := dk_177 (dk_at dksX4_readPass_4 9 rfl rfl)
abbrev cX4_cueMany : ByteArray := prog_17_method_8_code
def yX4_cueMany : MethodName := ⟨RX4, "cueMany", "()I"⟩
def dkwX4_cueMany_0 : List UInt8 := [42, 16, 8, 182, 0, 69, 172]
abbrev dktX4_cueMany_0 : List UInt8 := dkwX4_cueMany_0 ++ []
theorem dksX4_cueMany_0 : cX4_cueMany.data.toList.drop 0 = dktX4_cueMany_0 := by decide +kernel
theorem dX4_cueMany_0 : decode cX4_cueMany 0 = .ok (.aload_n 0, 1) := dk_42 (dk_at dksX4_cueMany_0 0 rfl rfl)
theorem dX4_cueMany_1 : decode cX4_cueMany 1 = .ok (.bipush 8, 2) := dk_16 8 (dk_at dksX4_cueMany_0 1 rfl rfl)
theorem dX4_cueMany_3 : decode cX4_cueMany 3 = .ok (.invokevirtual 69, 3) := dk_182 0 69 (dk_at dksX4_cueMany_0 3 rfl rfl)
theorem dX4_cueMany_6 : decode cX4_cueMany 6 = .ok (.ireturn, 1) := dk_172 (dk_at dksX4_cueMany_0 6 rfl rfl)
abbrev cX4_get : ByteArray := prog_17_method_6_code
def yX4_get : MethodName := ⟨RX4, "get", "(I)I"⟩
def dkwX4_get_0 : List UInt8 := [42, 180, 0, 7, 42, 180, 0, 66, 27, 96, 46, 172]
abbrev dktX4_get_0 : List UInt8 := dkwX4_get_0 ++ []
theorem dksX4_get_0 : cX4_get.data.toList.drop 0 = dktX4_get_0 := by decide +kernel
theorem dX4_get_0 : decode cX4_get 0 = .ok (.aload_n 0, 1) := dk_42 (dk_at dksX4_get_0 0 rfl rfl)
theorem dX4_get_1 : decode cX4_get 1 = .ok (.getfield 7, 3) := dk_180 0 7 (dk_at dksX4_get_0 1 rfl rfl)
theorem dX4_get_4 : decode cX4_get 4 = .ok (.aload_n 0, 1) := dk_42 (dk_at dksX4_get_0 4 rfl rfl)
theorem dX4_get_5 : decode cX4_get 5 = .ok (.getfield 66, 3) := dk_180 0 66 (dk_at dksX4_get_0 5 rfl rfl)
theorem dX4_get_8 : decode cX4_get 8 = .ok (.iload_n 1, 1) := dk_27 (dk_at dksX4_get_0 8 rfl rfl)
theorem dX4_get_9 : decode cX4_get 9 = .ok (.iadd, 1) := dk_96 (dk_at dksX4_get_0 9 rfl rfl)
theorem dX4_get_10 : decode cX4_get 10 = .ok (.iaload, 1) := dk_46 (dk_at dksX4_get_0 10 rfl rfl)
theorem dX4_get_11 : decode cX4_get 11 = .ok (.ireturn, 1) := dk_172 (dk_at dksX4_get_0 11 rfl rfl)
abbrev cX4_errorOffset : ByteArray := prog_17_method_46_code
def yX4_errorOffset : MethodName := ⟨RX4, "errorOffset", "()I"⟩
def dkwX4_errorOffset_0 : List UInt8 := [42, 3, 181, 0, 63, 42, 180, 0, 53, 172]
abbrev dktX4_errorOffset_0 : List UInt8 := dkwX4_errorOffset_0 ++ []
theorem dksX4_errorOffset_0 : cX4_errorOffset.data.toList.drop 0 = dktX4_errorOffset_0 := by decide +kernel
theorem dX4_errorOffset_0 : decode cX4_errorOffset 0 = .ok (.aload_n 0, 1) := dk_42 (dk_at dksX4_errorOffset_0 0 rfl rfl)
theorem dX4_errorOffset_1 : decode cX4_errorOffset 1 = .ok (.iconst 0, 1) := dk_3 (dk_at dksX4_errorOffset_0 1 rfl rfl)
theorem dX4_errorOffset_2 : decode cX4_errorOffset 2 = .ok (.putfield 63, 3) := dk_181 0 63 (dk_at dksX4_errorOffset_0 2 rfl rfl)
theorem dX4_errorOffset_5 : decode cX4_errorOffset 5 = .ok (.aload_n 0, 1) := dk_42 (dk_at dksX4_errorOffset_0 5 rfl rfl)
theorem dX4_errorOffset_6 : decode cX4_errorOffset 6 = .ok (.getfield 53, 3) := dk_180 0 53 (dk_at dksX4_errorOffset_0 6 rfl rfl)
theorem dX4_errorOffset_9 : decode cX4_errorOffset 9 = .ok (.ireturn, 1) := dk_172 (dk_at dksX4_errorOffset_0 9 rfl rfl)
abbrev cX4_count : ByteArray := prog_17_method_47_code
def yX4_count : MethodName := ⟨RX4, "count", "(I)I"⟩
def dkwX4_count_2 : List UInt8 := [42, 17, 0, 149, 182, 0, 69, 167, 0, 7, 42, 180, 0, 92, 172]
abbrev dktX4_count_2 : List UInt8 := dkwX4_count_2 ++ []
def dkwX4_count_1 : List UInt8 := [42, 180, 0, 81, 167, 0, 34, 27, 4, 160, 0, 10, 42, 182, 0, 88, 167, 0, 22, 27, 5, 160, 0, 13]
abbrev dktX4_count_1 : List UInt8 := dkwX4_count_1 ++ dktX4_count_2
def dkwX4_count_0 : List UInt8 := [42, 3, 181, 0, 63, 27, 3, 6, 184, 0, 84, 154, 0, 9, 42, 4, 182, 0, 98, 172, 27, 154, 0, 10]
abbrev dktX4_count_0 : List UInt8 := dkwX4_count_0 ++ dktX4_count_1
theorem dksX4_count_0 : cX4_count.data.toList.drop 0 = dktX4_count_0 := by decide +kernel
theorem dksX4_count_1 : cX4_count.data.toList.drop 24 = dktX4_count_1 := dk_seg dksX4_count_0 24 rfl rfl
theorem dksX4_count_2 : cX4_count.data.toList.drop 48 = dktX4_count_2 := dk_seg dksX4_count_1 24 rfl rfl
theorem dX4_count_0 : decode cX4_count 0 = .ok (.aload_n 0, 1) := dk_42 (dk_at dksX4_count_0 0 rfl rfl)
theorem dX4_count_1 : decode cX4_count 1 = .ok (.iconst 0, 1) := dk_3 (dk_at dksX4_count_0 1 rfl rfl)
theorem dX4_count_2 : decode cX4_count 2 = .ok (.putfield 63, 3) := dk_181 0 63 (dk_at dksX4_count_0 2 rfl rfl)
theorem dX4_count_5 : decode cX4_count 5 = .ok (.iload_n 1, 1) := dk_27 (dk_at dksX4_count_0 5 rfl rfl)
theorem dX4_count_6 : decode cX4_count 6 = .ok (.iconst 0, 1) := dk_3 (dk_at dksX4_count_0 6 rfl rfl)
theorem dX4_count_7 : decode cX4_count 7 = .ok (.iconst 3, 1) := dk_6 (dk_at dksX4_count_0 7 rfl rfl)
theorem dX4_count_8 : decode cX4_count 8 = .ok (.invokestatic 84, 3) := dk_184 0 84 (dk_at dksX4_count_0 8 rfl rfl)
theorem dX4_count_11 : decode cX4_count 11 = .ok (.ifCond .ne 9, 3) := dk_154 0 9 (dk_at dksX4_count_0 11 rfl rfl)
theorem dX4_count_14 : decode cX4_count 14 = .ok (.aload_n 0, 1) := dk_42 (dk_at dksX4_count_0 14 rfl rfl)
theorem dX4_count_15 : decode cX4_count 15 = .ok (.iconst 1, 1) := dk_4 (dk_at dksX4_count_0 15 rfl rfl)
theorem dX4_count_16 : decode cX4_count 16 = .ok (.invokevirtual 98, 3) := dk_182 0 98 (dk_at dksX4_count_0 16 rfl rfl)
theorem dX4_count_19 : decode cX4_count 19 = .ok (.ireturn, 1) := dk_172 (dk_at dksX4_count_0 19 rfl rfl)
theorem dX4_count_20 : decode cX4_count 20 = .ok (.iload_n 1, 1) := dk_27 (dk_at dksX4_count_0 20 rfl rfl)
theorem dX4_count_21 : decode cX4_count 21 = .ok (.ifCond .ne 10, 3) := dk_154 0 10 (dk_at dksX4_count_0 21 rfl rfl)
theorem dX4_count_24 : decode cX4_count 24 = .ok (.aload_n 0, 1) := dk_42 (dk_at dksX4_count_1 0 rfl rfl)
theorem dX4_count_25 : decode cX4_count 25 = .ok (.getfield 81, 3) := dk_180 0 81 (dk_at dksX4_count_1 1 rfl rfl)
theorem dX4_count_28 : decode cX4_count 28 = .ok (.goto 34, 3) := dk_167 0 34 (dk_at dksX4_count_1 4 rfl rfl)
theorem dX4_count_31 : decode cX4_count 31 = .ok (.iload_n 1, 1) := dk_27 (dk_at dksX4_count_1 7 rfl rfl)
theorem dX4_count_32 : decode cX4_count 32 = .ok (.iconst 1, 1) := dk_4 (dk_at dksX4_count_1 8 rfl rfl)
theorem dX4_count_33 : decode cX4_count 33 = .ok (.if_icmp .ne 10, 3) := dk_160 0 10 (dk_at dksX4_count_1 9 rfl rfl)
theorem dX4_count_36 : decode cX4_count 36 = .ok (.aload_n 0, 1) := dk_42 (dk_at dksX4_count_1 12 rfl rfl)
theorem dX4_count_37 : decode cX4_count 37 = .ok (.invokevirtual 88, 3) := dk_182 0 88 (dk_at dksX4_count_1 13 rfl rfl)
theorem dX4_count_40 : decode cX4_count 40 = .ok (.goto 22, 3) := dk_167 0 22 (dk_at dksX4_count_1 16 rfl rfl)
theorem dX4_count_43 : decode cX4_count 43 = .ok (.iload_n 1, 1) := dk_27 (dk_at dksX4_count_1 19 rfl rfl)
theorem dX4_count_44 : decode cX4_count 44 = .ok (.iconst 2, 1) := dk_5 (dk_at dksX4_count_1 20 rfl rfl)
theorem dX4_count_45 : decode cX4_count 45 = .ok (.if_icmp .ne 13, 3) := dk_160 0 13 (dk_at dksX4_count_1 21 rfl rfl)
theorem dX4_count_48 : decode cX4_count 48 = .ok (.aload_n 0, 1) := dk_42 (dk_at dksX4_count_2 0 rfl rfl)
theorem dX4_count_49 : decode cX4_count 49 = .ok (.sipush 149, 3) := dk_17 0 149 (dk_at dksX4_count_2 1 rfl rfl)
theorem dX4_count_52 : decode cX4_count 52 = .ok (.invokevirtual 69, 3) := dk_182 0 69 (dk_at dksX4_count_2 4 rfl rfl)
theorem dX4_count_55 : decode cX4_count 55 = .ok (.goto 7, 3) := dk_167 0 7 (dk_at dksX4_count_2 7 rfl rfl)
theorem dX4_count_58 : decode cX4_count 58 = .ok (.aload_n 0, 1) := dk_42 (dk_at dksX4_count_2 10 rfl rfl)
theorem dX4_count_59 : decode cX4_count 59 = .ok (.getfield 92, 3) := dk_180 0 92 (dk_at dksX4_count_2 11 rfl rfl)
theorem dX4_count_62 : decode cX4_count 62 = .ok (.ireturn, 1) := dk_172 (dk_at dksX4_count_2 14 rfl rfl)
abbrev cX4_limit : ByteArray := prog_17_method_50_code
def yX4_limit : MethodName := ⟨RX4, "limit", "(II)I"⟩
def dkwX4_limit_3 : List UInt8 := [182, 0, 69, 172, 42, 180, 0, 17, 6, 27, 104, 5, 96, 46, 172, 42, 5, 182, 0, 98, 172]
abbrev dktX4_limit_3 : List UInt8 := dkwX4_limit_3 ++ []
def dkwX4_limit_2 : List UInt8 := [42, 27, 182, 0, 223, 172, 42, 27, 182, 0, 226, 172, 42, 3, 27, 96, 182, 0, 69, 172, 42, 7, 27, 96]
abbrev dktX4_limit_2 : List UInt8 := dkwX4_limit_2 ++ dktX4_limit_3
def dkwX4_limit_1 : List UInt8 := [170, 0, 0, 0, 0, 0, 0, 75, 0, 0, 0, 0, 0, 0, 0, 4, 0, 0, 0, 36, 0, 0, 0, 42, 0, 0, 0, 48, 0, 0, 0, 56, 0, 0, 0, 64]
abbrev dktX4_limit_1 : List UInt8 := dkwX4_limit_1 ++ dktX4_limit_2
def dkwX4_limit_0 : List UInt8 := [42, 3, 181, 0, 63, 42, 27, 182, 0, 220, 154, 0, 9, 42, 4, 182, 0, 98, 172, 28]
abbrev dktX4_limit_0 : List UInt8 := dkwX4_limit_0 ++ dktX4_limit_1
theorem dksX4_limit_0 : cX4_limit.data.toList.drop 0 = dktX4_limit_0 := by decide +kernel
theorem dksX4_limit_1 : cX4_limit.data.toList.drop 20 = dktX4_limit_1 := dk_seg dksX4_limit_0 20 rfl rfl
theorem dksX4_limit_2 : cX4_limit.data.toList.drop 56 = dktX4_limit_2 := dk_seg dksX4_limit_1 36 rfl rfl
theorem dksX4_limit_3 : cX4_limit.data.toList.drop 80 = dktX4_limit_3 := dk_seg dksX4_limit_2 24 rfl rfl
theorem dX4_limit_0 : decode cX4_limit 0 = .ok (.aload_n 0, 1) := dk_42 (dk_at dksX4_limit_0 0 rfl rfl)
theorem dX4_limit_1 : decode cX4_limit 1 = .ok (.iconst 0, 1) := dk_3 (dk_at dksX4_limit_0 1 rfl rfl)
theorem dX4_limit_2 : decode cX4_limit 2 = .ok (.putfield 63, 3) := dk_181 0 63 (dk_at dksX4_limit_0 2 rfl rfl)
theorem dX4_limit_5 : decode cX4_limit 5 = .ok (.aload_n 0, 1) := dk_42 (dk_at dksX4_limit_0 5 rfl rfl)
theorem dX4_limit_6 : decode cX4_limit 6 = .ok (.iload_n 1, 1) := dk_27 (dk_at dksX4_limit_0 6 rfl rfl)
theorem dX4_limit_7 : decode cX4_limit 7 = .ok (.invokevirtual 220, 3) := dk_182 0 220 (dk_at dksX4_limit_0 7 rfl rfl)
theorem dX4_limit_10 : decode cX4_limit 10 = .ok (.ifCond .ne 9, 3) := dk_154 0 9 (dk_at dksX4_limit_0 10 rfl rfl)
theorem dX4_limit_13 : decode cX4_limit 13 = .ok (.aload_n 0, 1) := dk_42 (dk_at dksX4_limit_0 13 rfl rfl)
theorem dX4_limit_14 : decode cX4_limit 14 = .ok (.iconst 1, 1) := dk_4 (dk_at dksX4_limit_0 14 rfl rfl)
theorem dX4_limit_15 : decode cX4_limit 15 = .ok (.invokevirtual 98, 3) := dk_182 0 98 (dk_at dksX4_limit_0 15 rfl rfl)
theorem dX4_limit_18 : decode cX4_limit 18 = .ok (.ireturn, 1) := dk_172 (dk_at dksX4_limit_0 18 rfl rfl)
theorem dX4_limit_19 : decode cX4_limit 19 = .ok (.iload_n 2, 1) := dk_28 (dk_at dksX4_limit_0 19 rfl rfl)
theorem dX4_limit_20 : decode cX4_limit 20 = .ok (.tableswitch 75 0 4 #[36, 42, 48, 56, 64], 36) := by decide +kernel
theorem dX4_limit_56 : decode cX4_limit 56 = .ok (.aload_n 0, 1) := dk_42 (dk_at dksX4_limit_2 0 rfl rfl)
theorem dX4_limit_57 : decode cX4_limit 57 = .ok (.iload_n 1, 1) := dk_27 (dk_at dksX4_limit_2 1 rfl rfl)
theorem dX4_limit_58 : decode cX4_limit 58 = .ok (.invokevirtual 223, 3) := dk_182 0 223 (dk_at dksX4_limit_2 2 rfl rfl)
theorem dX4_limit_61 : decode cX4_limit 61 = .ok (.ireturn, 1) := dk_172 (dk_at dksX4_limit_2 5 rfl rfl)
theorem dX4_limit_62 : decode cX4_limit 62 = .ok (.aload_n 0, 1) := dk_42 (dk_at dksX4_limit_2 6 rfl rfl)
theorem dX4_limit_63 : decode cX4_limit 63 = .ok (.iload_n 1, 1) := dk_27 (dk_at dksX4_limit_2 7 rfl rfl)
theorem dX4_limit_64 : decode cX4_limit 64 = .ok (.invokevirtual 226, 3) := dk_182 0 226 (dk_at dksX4_limit_2 8 rfl rfl)
theorem dX4_limit_67 : decode cX4_limit 67 = .ok (.ireturn, 1) := dk_172 (dk_at dksX4_limit_2 11 rfl rfl)
theorem dX4_limit_68 : decode cX4_limit 68 = .ok (.aload_n 0, 1) := dk_42 (dk_at dksX4_limit_2 12 rfl rfl)
theorem dX4_limit_69 : decode cX4_limit 69 = .ok (.iconst 0, 1) := dk_3 (dk_at dksX4_limit_2 13 rfl rfl)
theorem dX4_limit_70 : decode cX4_limit 70 = .ok (.iload_n 1, 1) := dk_27 (dk_at dksX4_limit_2 14 rfl rfl)
theorem dX4_limit_71 : decode cX4_limit 71 = .ok (.iadd, 1) := dk_96 (dk_at dksX4_limit_2 15 rfl rfl)
theorem dX4_limit_72 : decode cX4_limit 72 = .ok (.invokevirtual 69, 3) := dk_182 0 69 (dk_at dksX4_limit_2 16 rfl rfl)
theorem dX4_limit_75 : decode cX4_limit 75 = .ok (.ireturn, 1) := dk_172 (dk_at dksX4_limit_2 19 rfl rfl)
theorem dX4_limit_76 : decode cX4_limit 76 = .ok (.aload_n 0, 1) := dk_42 (dk_at dksX4_limit_2 20 rfl rfl)
theorem dX4_limit_77 : decode cX4_limit 77 = .ok (.iconst 4, 1) := dk_7 (dk_at dksX4_limit_2 21 rfl rfl)
theorem dX4_limit_78 : decode cX4_limit 78 = .ok (.iload_n 1, 1) := dk_27 (dk_at dksX4_limit_2 22 rfl rfl)
theorem dX4_limit_79 : decode cX4_limit 79 = .ok (.iadd, 1) := dk_96 (dk_at dksX4_limit_2 23 rfl rfl)
theorem dX4_limit_80 : decode cX4_limit 80 = .ok (.invokevirtual 69, 3) := dk_182 0 69 (dk_at dksX4_limit_3 0 rfl rfl)
theorem dX4_limit_83 : decode cX4_limit 83 = .ok (.ireturn, 1) := dk_172 (dk_at dksX4_limit_3 3 rfl rfl)
theorem dX4_limit_84 : decode cX4_limit 84 = .ok (.aload_n 0, 1) := dk_42 (dk_at dksX4_limit_3 4 rfl rfl)
theorem dX4_limit_85 : decode cX4_limit 85 = .ok (.getfield 17, 3) := dk_180 0 17 (dk_at dksX4_limit_3 5 rfl rfl)
theorem dX4_limit_88 : decode cX4_limit 88 = .ok (.iconst 3, 1) := dk_6 (dk_at dksX4_limit_3 8 rfl rfl)
theorem dX4_limit_89 : decode cX4_limit 89 = .ok (.iload_n 1, 1) := dk_27 (dk_at dksX4_limit_3 9 rfl rfl)
theorem dX4_limit_90 : decode cX4_limit 90 = .ok (.imul, 1) := dk_104 (dk_at dksX4_limit_3 10 rfl rfl)
theorem dX4_limit_91 : decode cX4_limit 91 = .ok (.iconst 2, 1) := dk_5 (dk_at dksX4_limit_3 11 rfl rfl)
theorem dX4_limit_92 : decode cX4_limit 92 = .ok (.iadd, 1) := dk_96 (dk_at dksX4_limit_3 12 rfl rfl)
theorem dX4_limit_93 : decode cX4_limit 93 = .ok (.iaload, 1) := dk_46 (dk_at dksX4_limit_3 13 rfl rfl)
theorem dX4_limit_94 : decode cX4_limit 94 = .ok (.ireturn, 1) := dk_172 (dk_at dksX4_limit_3 14 rfl rfl)
theorem dX4_limit_95 : decode cX4_limit 95 = .ok (.aload_n 0, 1) := dk_42 (dk_at dksX4_limit_3 15 rfl rfl)
theorem dX4_limit_96 : decode cX4_limit 96 = .ok (.iconst 2, 1) := dk_5 (dk_at dksX4_limit_3 16 rfl rfl)
theorem dX4_limit_97 : decode cX4_limit 97 = .ok (.invokevirtual 98, 3) := dk_182 0 98 (dk_at dksX4_limit_3 17 rfl rfl)
theorem dX4_limit_100 : decode cX4_limit 100 = .ok (.ireturn, 1) := dk_172 (dk_at dksX4_limit_3 20 rfl rfl)
abbrev cX4_isAxis : ByteArray := prog_17_method_12_code
def yX4_isAxis : MethodName := ⟨RX4, "isAxis", "(I)Z"⟩
def dkwX4_isAxis_0 : List UInt8 := [27, 3, 42, 180, 0, 81, 4, 100, 184, 0, 84, 172]
abbrev dktX4_isAxis_0 : List UInt8 := dkwX4_isAxis_0 ++ []
theorem dksX4_isAxis_0 : cX4_isAxis.data.toList.drop 0 = dktX4_isAxis_0 := by decide +kernel
theorem dX4_isAxis_0 : decode cX4_isAxis 0 = .ok (.iload_n 1, 1) := dk_27 (dk_at dksX4_isAxis_0 0 rfl rfl)
theorem dX4_isAxis_1 : decode cX4_isAxis 1 = .ok (.iconst 0, 1) := dk_3 (dk_at dksX4_isAxis_0 1 rfl rfl)
theorem dX4_isAxis_2 : decode cX4_isAxis 2 = .ok (.aload_n 0, 1) := dk_42 (dk_at dksX4_isAxis_0 2 rfl rfl)
theorem dX4_isAxis_3 : decode cX4_isAxis 3 = .ok (.getfield 81, 3) := dk_180 0 81 (dk_at dksX4_isAxis_0 3 rfl rfl)
theorem dX4_isAxis_6 : decode cX4_isAxis 6 = .ok (.iconst 1, 1) := dk_4 (dk_at dksX4_isAxis_0 6 rfl rfl)
theorem dX4_isAxis_7 : decode cX4_isAxis 7 = .ok (.isub, 1) := dk_100 (dk_at dksX4_isAxis_0 7 rfl rfl)
theorem dX4_isAxis_8 : decode cX4_isAxis 8 = .ok (.invokestatic 84, 3) := dk_184 0 84 (dk_at dksX4_isAxis_0 8 rfl rfl)
theorem dX4_isAxis_11 : decode cX4_isAxis 11 = .ok (.ireturn, 1) := dk_172 (dk_at dksX4_isAxis_0 11 rfl rfl)
abbrev cX4_low : ByteArray := prog_17_method_48_code
def yX4_low : MethodName := ⟨RX4, "low", "(I)I"⟩
def dkwX4_low_0 : List UInt8 := [42, 180, 0, 17, 6, 27, 104, 46, 172]
abbrev dktX4_low_0 : List UInt8 := dkwX4_low_0 ++ []
theorem dksX4_low_0 : cX4_low.data.toList.drop 0 = dktX4_low_0 := by decide +kernel
theorem dX4_low_0 : decode cX4_low 0 = .ok (.aload_n 0, 1) := dk_42 (dk_at dksX4_low_0 0 rfl rfl)
theorem dX4_low_1 : decode cX4_low 1 = .ok (.getfield 17, 3) := dk_180 0 17 (dk_at dksX4_low_0 1 rfl rfl)
theorem dX4_low_4 : decode cX4_low 4 = .ok (.iconst 3, 1) := dk_6 (dk_at dksX4_low_0 4 rfl rfl)
theorem dX4_low_5 : decode cX4_low 5 = .ok (.iload_n 1, 1) := dk_27 (dk_at dksX4_low_0 5 rfl rfl)
theorem dX4_low_6 : decode cX4_low 6 = .ok (.imul, 1) := dk_104 (dk_at dksX4_low_0 6 rfl rfl)
theorem dX4_low_7 : decode cX4_low 7 = .ok (.iaload, 1) := dk_46 (dk_at dksX4_low_0 7 rfl rfl)
theorem dX4_low_8 : decode cX4_low 8 = .ok (.ireturn, 1) := dk_172 (dk_at dksX4_low_0 8 rfl rfl)
abbrev cX4_high : ByteArray := prog_17_method_49_code
def yX4_high : MethodName := ⟨RX4, "high", "(I)I"⟩
def dkwX4_high_0 : List UInt8 := [42, 180, 0, 17, 6, 27, 104, 4, 96, 46, 172]
abbrev dktX4_high_0 : List UInt8 := dkwX4_high_0 ++ []
theorem dksX4_high_0 : cX4_high.data.toList.drop 0 = dktX4_high_0 := by decide +kernel
theorem dX4_high_0 : decode cX4_high 0 = .ok (.aload_n 0, 1) := dk_42 (dk_at dksX4_high_0 0 rfl rfl)
theorem dX4_high_1 : decode cX4_high 1 = .ok (.getfield 17, 3) := dk_180 0 17 (dk_at dksX4_high_0 1 rfl rfl)
theorem dX4_high_4 : decode cX4_high 4 = .ok (.iconst 3, 1) := dk_6 (dk_at dksX4_high_0 4 rfl rfl)
theorem dX4_high_5 : decode cX4_high 5 = .ok (.iload_n 1, 1) := dk_27 (dk_at dksX4_high_0 5 rfl rfl)
theorem dX4_high_6 : decode cX4_high 6 = .ok (.imul, 1) := dk_104 (dk_at dksX4_high_0 6 rfl rfl)
theorem dX4_high_7 : decode cX4_high 7 = .ok (.iconst 1, 1) := dk_4 (dk_at dksX4_high_0 7 rfl rfl)
theorem dX4_high_8 : decode cX4_high 8 = .ok (.iadd, 1) := dk_96 (dk_at dksX4_high_0 8 rfl rfl)
theorem dX4_high_9 : decode cX4_high 9 = .ok (.iaload, 1) := dk_46 (dk_at dksX4_high_0 9 rfl rfl)
theorem dX4_high_10 : decode cX4_high 10 = .ok (.ireturn, 1) := dk_172 (dk_at dksX4_high_0 10 rfl rfl)
abbrev cX4_cueFrame : ByteArray := prog_17_method_51_code
def yX4_cueFrame : MethodName := ⟨RX4, "cueFrame", "(I)I"⟩
def dkwX4_cueFrame_1 : List UInt8 := [182, 0, 98, 172]
abbrev dktX4_cueFrame_1 : List UInt8 := dkwX4_cueFrame_1 ++ []
def dkwX4_cueFrame_0 : List UInt8 := [42, 3, 181, 0, 63, 42, 27, 182, 0, 229, 153, 0, 12, 42, 27, 3, 182, 0, 77, 167, 0, 8, 42, 4]
abbrev dktX4_cueFrame_0 : List UInt8 := dkwX4_cueFrame_0 ++ dktX4_cueFrame_1
theorem dksX4_cueFrame_0 : cX4_cueFrame.data.toList.drop 0 = dktX4_cueFrame_0 := by decide +kernel
theorem dksX4_cueFrame_1 : cX4_cueFrame.data.toList.drop 24 = dktX4_cueFrame_1 := dk_seg dksX4_cueFrame_0 24 rfl rfl
theorem dX4_cueFrame_0 : decode cX4_cueFrame 0 = .ok (.aload_n 0, 1) := dk_42 (dk_at dksX4_cueFrame_0 0 rfl rfl)
theorem dX4_cueFrame_1 : decode cX4_cueFrame 1 = .ok (.iconst 0, 1) := dk_3 (dk_at dksX4_cueFrame_0 1 rfl rfl)
theorem dX4_cueFrame_2 : decode cX4_cueFrame 2 = .ok (.putfield 63, 3) := dk_181 0 63 (dk_at dksX4_cueFrame_0 2 rfl rfl)
theorem dX4_cueFrame_5 : decode cX4_cueFrame 5 = .ok (.aload_n 0, 1) := dk_42 (dk_at dksX4_cueFrame_0 5 rfl rfl)
theorem dX4_cueFrame_6 : decode cX4_cueFrame 6 = .ok (.iload_n 1, 1) := dk_27 (dk_at dksX4_cueFrame_0 6 rfl rfl)
theorem dX4_cueFrame_7 : decode cX4_cueFrame 7 = .ok (.invokevirtual 229, 3) := dk_182 0 229 (dk_at dksX4_cueFrame_0 7 rfl rfl)
theorem dX4_cueFrame_10 : decode cX4_cueFrame 10 = .ok (.ifCond .eq 12, 3) := dk_153 0 12 (dk_at dksX4_cueFrame_0 10 rfl rfl)
theorem dX4_cueFrame_13 : decode cX4_cueFrame 13 = .ok (.aload_n 0, 1) := dk_42 (dk_at dksX4_cueFrame_0 13 rfl rfl)
theorem dX4_cueFrame_14 : decode cX4_cueFrame 14 = .ok (.iload_n 1, 1) := dk_27 (dk_at dksX4_cueFrame_0 14 rfl rfl)
theorem dX4_cueFrame_15 : decode cX4_cueFrame 15 = .ok (.iconst 0, 1) := dk_3 (dk_at dksX4_cueFrame_0 15 rfl rfl)
theorem dX4_cueFrame_16 : decode cX4_cueFrame 16 = .ok (.invokevirtual 77, 3) := dk_182 0 77 (dk_at dksX4_cueFrame_0 16 rfl rfl)
theorem dX4_cueFrame_19 : decode cX4_cueFrame 19 = .ok (.goto 8, 3) := dk_167 0 8 (dk_at dksX4_cueFrame_0 19 rfl rfl)
theorem dX4_cueFrame_22 : decode cX4_cueFrame 22 = .ok (.aload_n 0, 1) := dk_42 (dk_at dksX4_cueFrame_0 22 rfl rfl)
theorem dX4_cueFrame_23 : decode cX4_cueFrame 23 = .ok (.iconst 1, 1) := dk_4 (dk_at dksX4_cueFrame_0 23 rfl rfl)
theorem dX4_cueFrame_24 : decode cX4_cueFrame 24 = .ok (.invokevirtual 98, 3) := dk_182 0 98 (dk_at dksX4_cueFrame_1 0 rfl rfl)
theorem dX4_cueFrame_27 : decode cX4_cueFrame 27 = .ok (.ireturn, 1) := dk_172 (dk_at dksX4_cueFrame_1 3 rfl rfl)
abbrev cX4_isCue : ByteArray := prog_17_method_13_code
def yX4_isCue : MethodName := ⟨RX4, "isCue", "(I)Z"⟩
def dkwX4_isCue_0 : List UInt8 := [27, 3, 42, 182, 0, 88, 4, 100, 184, 0, 84, 172]
abbrev dktX4_isCue_0 : List UInt8 := dkwX4_isCue_0 ++ []
theorem dksX4_isCue_0 : cX4_isCue.data.toList.drop 0 = dktX4_isCue_0 := by decide +kernel
theorem dX4_isCue_0 : decode cX4_isCue 0 = .ok (.iload_n 1, 1) := dk_27 (dk_at dksX4_isCue_0 0 rfl rfl)
theorem dX4_isCue_1 : decode cX4_isCue 1 = .ok (.iconst 0, 1) := dk_3 (dk_at dksX4_isCue_0 1 rfl rfl)
theorem dX4_isCue_2 : decode cX4_isCue 2 = .ok (.aload_n 0, 1) := dk_42 (dk_at dksX4_isCue_0 2 rfl rfl)
theorem dX4_isCue_3 : decode cX4_isCue 3 = .ok (.invokevirtual 88, 3) := dk_182 0 88 (dk_at dksX4_isCue_0 3 rfl rfl)
theorem dX4_isCue_6 : decode cX4_isCue 6 = .ok (.iconst 1, 1) := dk_4 (dk_at dksX4_isCue_0 6 rfl rfl)
theorem dX4_isCue_7 : decode cX4_isCue 7 = .ok (.isub, 1) := dk_100 (dk_at dksX4_isCue_0 7 rfl rfl)
theorem dX4_isCue_8 : decode cX4_isCue 8 = .ok (.invokestatic 84, 3) := dk_184 0 84 (dk_at dksX4_isCue_0 8 rfl rfl)
theorem dX4_isCue_11 : decode cX4_isCue 11 = .ok (.ireturn, 1) := dk_172 (dk_at dksX4_isCue_0 11 rfl rfl)
abbrev cX4_of : ByteArray := prog_17_method_9_code
def yX4_of : MethodName := ⟨RX4, "of", "(II)I"⟩
def dkwX4_of_0 : List UInt8 := [42, 16, 9, 16, 7, 27, 104, 96, 28, 96, 182, 0, 69, 172]
abbrev dktX4_of_0 : List UInt8 := dkwX4_of_0 ++ []
theorem dksX4_of_0 : cX4_of.data.toList.drop 0 = dktX4_of_0 := by decide +kernel
theorem dX4_of_0 : decode cX4_of 0 = .ok (.aload_n 0, 1) := dk_42 (dk_at dksX4_of_0 0 rfl rfl)
theorem dX4_of_1 : decode cX4_of 1 = .ok (.bipush 9, 2) := dk_16 9 (dk_at dksX4_of_0 1 rfl rfl)
theorem dX4_of_3 : decode cX4_of 3 = .ok (.bipush 7, 2) := dk_16 7 (dk_at dksX4_of_0 3 rfl rfl)
theorem dX4_of_5 : decode cX4_of 5 = .ok (.iload_n 1, 1) := dk_27 (dk_at dksX4_of_0 5 rfl rfl)
theorem dX4_of_6 : decode cX4_of 6 = .ok (.imul, 1) := dk_104 (dk_at dksX4_of_0 6 rfl rfl)
theorem dX4_of_7 : decode cX4_of 7 = .ok (.iadd, 1) := dk_96 (dk_at dksX4_of_0 7 rfl rfl)
theorem dX4_of_8 : decode cX4_of 8 = .ok (.iload_n 2, 1) := dk_28 (dk_at dksX4_of_0 8 rfl rfl)
theorem dX4_of_9 : decode cX4_of 9 = .ok (.iadd, 1) := dk_96 (dk_at dksX4_of_0 9 rfl rfl)
theorem dX4_of_10 : decode cX4_of 10 = .ok (.invokevirtual 69, 3) := dk_182 0 69 (dk_at dksX4_of_0 10 rfl rfl)
theorem dX4_of_13 : decode cX4_of 13 = .ok (.ireturn, 1) := dk_172 (dk_at dksX4_of_0 13 rfl rfl)
abbrev cX4_cueLength : ByteArray := prog_17_method_52_code
def yX4_cueLength : MethodName := ⟨RX4, "cueLength", "(I)I"⟩
def dkwX4_cueLength_1 : List UInt8 := [182, 0, 98, 172]
abbrev dktX4_cueLength_1 : List UInt8 := dkwX4_cueLength_1 ++ []
def dkwX4_cueLength_0 : List UInt8 := [42, 3, 181, 0, 63, 42, 27, 182, 0, 229, 153, 0, 12, 42, 27, 4, 182, 0, 77, 167, 0, 8, 42, 4]
abbrev dktX4_cueLength_0 : List UInt8 := dkwX4_cueLength_0 ++ dktX4_cueLength_1
theorem dksX4_cueLength_0 : cX4_cueLength.data.toList.drop 0 = dktX4_cueLength_0 := by decide +kernel
theorem dksX4_cueLength_1 : cX4_cueLength.data.toList.drop 24 = dktX4_cueLength_1 := dk_seg dksX4_cueLength_0 24 rfl rfl
theorem dX4_cueLength_0 : decode cX4_cueLength 0 = .ok (.aload_n 0, 1) := dk_42 (dk_at dksX4_cueLength_0 0 rfl rfl)
theorem dX4_cueLength_1 : decode cX4_cueLength 1 = .ok (.iconst 0, 1) := dk_3 (dk_at dksX4_cueLength_0 1 rfl rfl)
theorem dX4_cueLength_2 : decode cX4_cueLength 2 = .ok (.putfield 63, 3) := dk_181 0 63 (dk_at dksX4_cueLength_0 2 rfl rfl)
theorem dX4_cueLength_5 : decode cX4_cueLength 5 = .ok (.aload_n 0, 1) := dk_42 (dk_at dksX4_cueLength_0 5 rfl rfl)
theorem dX4_cueLength_6 : decode cX4_cueLength 6 = .ok (.iload_n 1, 1) := dk_27 (dk_at dksX4_cueLength_0 6 rfl rfl)
theorem dX4_cueLength_7 : decode cX4_cueLength 7 = .ok (.invokevirtual 229, 3) := dk_182 0 229 (dk_at dksX4_cueLength_0 7 rfl rfl)
theorem dX4_cueLength_10 : decode cX4_cueLength 10 = .ok (.ifCond .eq 12, 3) := dk_153 0 12 (dk_at dksX4_cueLength_0 10 rfl rfl)
theorem dX4_cueLength_13 : decode cX4_cueLength 13 = .ok (.aload_n 0, 1) := dk_42 (dk_at dksX4_cueLength_0 13 rfl rfl)
theorem dX4_cueLength_14 : decode cX4_cueLength 14 = .ok (.iload_n 1, 1) := dk_27 (dk_at dksX4_cueLength_0 14 rfl rfl)
theorem dX4_cueLength_15 : decode cX4_cueLength 15 = .ok (.iconst 1, 1) := dk_4 (dk_at dksX4_cueLength_0 15 rfl rfl)
theorem dX4_cueLength_16 : decode cX4_cueLength 16 = .ok (.invokevirtual 77, 3) := dk_182 0 77 (dk_at dksX4_cueLength_0 16 rfl rfl)
theorem dX4_cueLength_19 : decode cX4_cueLength 19 = .ok (.goto 8, 3) := dk_167 0 8 (dk_at dksX4_cueLength_0 19 rfl rfl)
theorem dX4_cueLength_22 : decode cX4_cueLength 22 = .ok (.aload_n 0, 1) := dk_42 (dk_at dksX4_cueLength_0 22 rfl rfl)
theorem dX4_cueLength_23 : decode cX4_cueLength 23 = .ok (.iconst 1, 1) := dk_4 (dk_at dksX4_cueLength_0 23 rfl rfl)
theorem dX4_cueLength_24 : decode cX4_cueLength 24 = .ok (.invokevirtual 98, 3) := dk_182 0 98 (dk_at dksX4_cueLength_1 0 rfl rfl)
theorem dX4_cueLength_27 : decode cX4_cueLength 27 = .ok (.ireturn, 1) := dk_172 (dk_at dksX4_cueLength_1 3 rfl rfl)
abbrev cX4_target : ByteArray := prog_17_method_54_code
def yX4_target : MethodName := ⟨RX4, "target", "(II)I"⟩
def dkwX4_target_0 : List UInt8 := [42, 27, 28, 182, 0, 236, 153, 0, 14, 42, 27, 6, 28, 96, 182, 0, 77, 167, 0, 4, 3, 172]
abbrev dktX4_target_0 : List UInt8 := dkwX4_target_0 ++ []
theorem dksX4_target_0 : cX4_target.data.toList.drop 0 = dktX4_target_0 := by decide +kernel
theorem dX4_target_0 : decode cX4_target 0 = .ok (.aload_n 0, 1) := dk_42 (dk_at dksX4_target_0 0 rfl rfl)
theorem dX4_target_1 : decode cX4_target 1 = .ok (.iload_n 1, 1) := dk_27 (dk_at dksX4_target_0 1 rfl rfl)
theorem dX4_target_2 : decode cX4_target 2 = .ok (.iload_n 2, 1) := dk_28 (dk_at dksX4_target_0 2 rfl rfl)
theorem dX4_target_3 : decode cX4_target 3 = .ok (.invokevirtual 236, 3) := dk_182 0 236 (dk_at dksX4_target_0 3 rfl rfl)
theorem dX4_target_6 : decode cX4_target 6 = .ok (.ifCond .eq 14, 3) := dk_153 0 14 (dk_at dksX4_target_0 6 rfl rfl)
theorem dX4_target_9 : decode cX4_target 9 = .ok (.aload_n 0, 1) := dk_42 (dk_at dksX4_target_0 9 rfl rfl)
theorem dX4_target_10 : decode cX4_target 10 = .ok (.iload_n 1, 1) := dk_27 (dk_at dksX4_target_0 10 rfl rfl)
theorem dX4_target_11 : decode cX4_target 11 = .ok (.iconst 3, 1) := dk_6 (dk_at dksX4_target_0 11 rfl rfl)
theorem dX4_target_12 : decode cX4_target 12 = .ok (.iload_n 2, 1) := dk_28 (dk_at dksX4_target_0 12 rfl rfl)
theorem dX4_target_13 : decode cX4_target 13 = .ok (.iadd, 1) := dk_96 (dk_at dksX4_target_0 13 rfl rfl)
theorem dX4_target_14 : decode cX4_target 14 = .ok (.invokevirtual 77, 3) := dk_182 0 77 (dk_at dksX4_target_0 14 rfl rfl)
theorem dX4_target_17 : decode cX4_target 17 = .ok (.goto 4, 3) := dk_167 0 4 (dk_at dksX4_target_0 17 rfl rfl)
theorem dX4_target_20 : decode cX4_target 20 = .ok (.iconst 0, 1) := dk_3 (dk_at dksX4_target_0 20 rfl rfl)
theorem dX4_target_21 : decode cX4_target 21 = .ok (.ireturn, 1) := dk_172 (dk_at dksX4_target_0 21 rfl rfl)
abbrev cX4_isTold : ByteArray := prog_17_method_53_code
def yX4_isTold : MethodName := ⟨RX4, "isTold", "(II)Z"⟩
def dkwX4_isTold_2 : List UInt8 := [167, 0, 4, 3, 172]
abbrev dktX4_isTold_2 : List UInt8 := dkwX4_isTold_2 ++ []
def dkwX4_isTold_1 : List UInt8 := [182, 0, 232, 153, 0, 7, 3, 167, 0, 4, 5, 181, 0, 63, 42, 180, 0, 63, 154, 0, 7, 4]
abbrev dktX4_isTold_1 : List UInt8 := dkwX4_isTold_1 ++ dktX4_isTold_2
def dkwX4_isTold_0 : List UInt8 := [42, 42, 27, 182, 0, 229, 153, 0, 11, 42, 28, 182, 0, 220, 154, 0, 7, 4, 167, 0, 17, 42, 27, 28]
abbrev dktX4_isTold_0 : List UInt8 := dkwX4_isTold_0 ++ dktX4_isTold_1
theorem dksX4_isTold_0 : cX4_isTold.data.toList.drop 0 = dktX4_isTold_0 := by decide +kernel
theorem dksX4_isTold_1 : cX4_isTold.data.toList.drop 24 = dktX4_isTold_1 := dk_seg dksX4_isTold_0 24 rfl rfl
theorem dksX4_isTold_2 : cX4_isTold.data.toList.drop 46 = dktX4_isTold_2 := dk_seg dksX4_isTold_1 22 rfl rfl
theorem dX4_isTold_0 : decode cX4_isTold 0 = .ok (.aload_n 0, 1) := dk_42 (dk_at dksX4_isTold_0 0 rfl rfl)
theorem dX4_isTold_1 : decode cX4_isTold 1 = .ok (.aload_n 0, 1) := dk_42 (dk_at dksX4_isTold_0 1 rfl rfl)
theorem dX4_isTold_2 : decode cX4_isTold 2 = .ok (.iload_n 1, 1) := dk_27 (dk_at dksX4_isTold_0 2 rfl rfl)
theorem dX4_isTold_3 : decode cX4_isTold 3 = .ok (.invokevirtual 229, 3) := dk_182 0 229 (dk_at dksX4_isTold_0 3 rfl rfl)
theorem dX4_isTold_6 : decode cX4_isTold 6 = .ok (.ifCond .eq 11, 3) := dk_153 0 11 (dk_at dksX4_isTold_0 6 rfl rfl)
theorem dX4_isTold_9 : decode cX4_isTold 9 = .ok (.aload_n 0, 1) := dk_42 (dk_at dksX4_isTold_0 9 rfl rfl)
theorem dX4_isTold_10 : decode cX4_isTold 10 = .ok (.iload_n 2, 1) := dk_28 (dk_at dksX4_isTold_0 10 rfl rfl)
theorem dX4_isTold_11 : decode cX4_isTold 11 = .ok (.invokevirtual 220, 3) := dk_182 0 220 (dk_at dksX4_isTold_0 11 rfl rfl)
theorem dX4_isTold_14 : decode cX4_isTold 14 = .ok (.ifCond .ne 7, 3) := dk_154 0 7 (dk_at dksX4_isTold_0 14 rfl rfl)
theorem dX4_isTold_17 : decode cX4_isTold 17 = .ok (.iconst 1, 1) := dk_4 (dk_at dksX4_isTold_0 17 rfl rfl)
theorem dX4_isTold_18 : decode cX4_isTold 18 = .ok (.goto 17, 3) := dk_167 0 17 (dk_at dksX4_isTold_0 18 rfl rfl)
theorem dX4_isTold_21 : decode cX4_isTold 21 = .ok (.aload_n 0, 1) := dk_42 (dk_at dksX4_isTold_0 21 rfl rfl)
theorem dX4_isTold_22 : decode cX4_isTold 22 = .ok (.iload_n 1, 1) := dk_27 (dk_at dksX4_isTold_0 22 rfl rfl)
theorem dX4_isTold_23 : decode cX4_isTold 23 = .ok (.iload_n 2, 1) := dk_28 (dk_at dksX4_isTold_0 23 rfl rfl)
theorem dX4_isTold_24 : decode cX4_isTold 24 = .ok (.invokevirtual 232, 3) := dk_182 0 232 (dk_at dksX4_isTold_1 0 rfl rfl)
theorem dX4_isTold_27 : decode cX4_isTold 27 = .ok (.ifCond .eq 7, 3) := dk_153 0 7 (dk_at dksX4_isTold_1 3 rfl rfl)
theorem dX4_isTold_30 : decode cX4_isTold 30 = .ok (.iconst 0, 1) := dk_3 (dk_at dksX4_isTold_1 6 rfl rfl)
theorem dX4_isTold_31 : decode cX4_isTold 31 = .ok (.goto 4, 3) := dk_167 0 4 (dk_at dksX4_isTold_1 7 rfl rfl)
theorem dX4_isTold_34 : decode cX4_isTold 34 = .ok (.iconst 2, 1) := dk_5 (dk_at dksX4_isTold_1 10 rfl rfl)
theorem dX4_isTold_35 : decode cX4_isTold 35 = .ok (.putfield 63, 3) := dk_181 0 63 (dk_at dksX4_isTold_1 11 rfl rfl)
theorem dX4_isTold_38 : decode cX4_isTold 38 = .ok (.aload_n 0, 1) := dk_42 (dk_at dksX4_isTold_1 14 rfl rfl)
theorem dX4_isTold_39 : decode cX4_isTold 39 = .ok (.getfield 63, 3) := dk_180 0 63 (dk_at dksX4_isTold_1 15 rfl rfl)
theorem dX4_isTold_42 : decode cX4_isTold 42 = .ok (.ifCond .ne 7, 3) := dk_154 0 7 (dk_at dksX4_isTold_1 18 rfl rfl)
theorem dX4_isTold_45 : decode cX4_isTold 45 = .ok (.iconst 1, 1) := dk_4 (dk_at dksX4_isTold_1 21 rfl rfl)
theorem dX4_isTold_46 : decode cX4_isTold 46 = .ok (.goto 4, 3) := dk_167 0 4 (dk_at dksX4_isTold_2 0 rfl rfl)
theorem dX4_isTold_49 : decode cX4_isTold 49 = .ok (.iconst 0, 1) := dk_3 (dk_at dksX4_isTold_2 3 rfl rfl)
theorem dX4_isTold_50 : decode cX4_isTold 50 = .ok (.ireturn, 1) := dk_172 (dk_at dksX4_isTold_2 4 rfl rfl)
abbrev cX4_has : ByteArray := prog_17_method_11_code
def yX4_has : MethodName := ⟨RX4, "has", "(II)Z"⟩
def dkwX4_has_0 : List UInt8 := [42, 27, 5, 182, 0, 77, 28, 122, 4, 126, 4, 160, 0, 7, 4, 167, 0, 4, 3, 172]
abbrev dktX4_has_0 : List UInt8 := dkwX4_has_0 ++ []
theorem dksX4_has_0 : cX4_has.data.toList.drop 0 = dktX4_has_0 := by decide +kernel
theorem dX4_has_0 : decode cX4_has 0 = .ok (.aload_n 0, 1) := dk_42 (dk_at dksX4_has_0 0 rfl rfl)
theorem dX4_has_1 : decode cX4_has 1 = .ok (.iload_n 1, 1) := dk_27 (dk_at dksX4_has_0 1 rfl rfl)
theorem dX4_has_2 : decode cX4_has 2 = .ok (.iconst 2, 1) := dk_5 (dk_at dksX4_has_0 2 rfl rfl)
theorem dX4_has_3 : decode cX4_has 3 = .ok (.invokevirtual 77, 3) := dk_182 0 77 (dk_at dksX4_has_0 3 rfl rfl)
theorem dX4_has_6 : decode cX4_has 6 = .ok (.iload_n 2, 1) := dk_28 (dk_at dksX4_has_0 6 rfl rfl)
theorem dX4_has_7 : decode cX4_has 7 = .ok (.ishr, 1) := dk_122 (dk_at dksX4_has_0 7 rfl rfl)
theorem dX4_has_8 : decode cX4_has 8 = .ok (.iconst 1, 1) := dk_4 (dk_at dksX4_has_0 8 rfl rfl)
theorem dX4_has_9 : decode cX4_has 9 = .ok (.iand, 1) := dk_126 (dk_at dksX4_has_0 9 rfl rfl)
theorem dX4_has_10 : decode cX4_has 10 = .ok (.iconst 1, 1) := dk_4 (dk_at dksX4_has_0 10 rfl rfl)
theorem dX4_has_11 : decode cX4_has 11 = .ok (.if_icmp .ne 7, 3) := dk_160 0 7 (dk_at dksX4_has_0 11 rfl rfl)
theorem dX4_has_14 : decode cX4_has 14 = .ok (.iconst 1, 1) := dk_4 (dk_at dksX4_has_0 14 rfl rfl)
theorem dX4_has_15 : decode cX4_has 15 = .ok (.goto 4, 3) := dk_167 0 4 (dk_at dksX4_has_0 15 rfl rfl)
theorem dX4_has_18 : decode cX4_has 18 = .ok (.iconst 0, 1) := dk_3 (dk_at dksX4_has_0 18 rfl rfl)
theorem dX4_has_19 : decode cX4_has 19 = .ok (.ireturn, 1) := dk_172 (dk_at dksX4_has_0 19 rfl rfl)
abbrev cX4_leastFrames : ByteArray := prog_17_method_62_code
def yX4_leastFrames : MethodName := ⟨RX4, "leastFrames", "(II)I"⟩
def dkwX4_leastFrames_1 : List UInt8 := [17, 78, 30, 184, 0, 84, 153, 0, 12, 42, 27, 28, 182, 1, 14, 167, 0, 8, 42, 5, 182, 0, 98, 172]
abbrev dktX4_leastFrames_1 : List UInt8 := dkwX4_leastFrames_1 ++ []
def dkwX4_leastFrames_0 : List UInt8 := [42, 3, 181, 0, 63, 42, 27, 182, 0, 220, 154, 0, 9, 42, 4, 182, 0, 98, 172, 28, 17, 177, 226]
abbrev dktX4_leastFrames_0 : List UInt8 := dkwX4_leastFrames_0 ++ dktX4_leastFrames_1
theorem dksX4_leastFrames_0 : cX4_leastFrames.data.toList.drop 0 = dktX4_leastFrames_0 := by decide +kernel
theorem dksX4_leastFrames_1 : cX4_leastFrames.data.toList.drop 23 = dktX4_leastFrames_1 := dk_seg dksX4_leastFrames_0 23 rfl rfl
theorem dX4_leastFrames_0 : decode cX4_leastFrames 0 = .ok (.aload_n 0, 1) := dk_42 (dk_at dksX4_leastFrames_0 0 rfl rfl)
theorem dX4_leastFrames_1 : decode cX4_leastFrames 1 = .ok (.iconst 0, 1) := dk_3 (dk_at dksX4_leastFrames_0 1 rfl rfl)
theorem dX4_leastFrames_2 : decode cX4_leastFrames 2 = .ok (.putfield 63, 3) := dk_181 0 63 (dk_at dksX4_leastFrames_0 2 rfl rfl)
theorem dX4_leastFrames_5 : decode cX4_leastFrames 5 = .ok (.aload_n 0, 1) := dk_42 (dk_at dksX4_leastFrames_0 5 rfl rfl)
theorem dX4_leastFrames_6 : decode cX4_leastFrames 6 = .ok (.iload_n 1, 1) := dk_27 (dk_at dksX4_leastFrames_0 6 rfl rfl)
theorem dX4_leastFrames_7 : decode cX4_leastFrames 7 = .ok (.invokevirtual 220, 3) := dk_182 0 220 (dk_at dksX4_leastFrames_0 7 rfl rfl)
theorem dX4_leastFrames_10 : decode cX4_leastFrames 10 = .ok (.ifCond .ne 9, 3) := dk_154 0 9 (dk_at dksX4_leastFrames_0 10 rfl rfl)
theorem dX4_leastFrames_13 : decode cX4_leastFrames 13 = .ok (.aload_n 0, 1) := dk_42 (dk_at dksX4_leastFrames_0 13 rfl rfl)
theorem dX4_leastFrames_14 : decode cX4_leastFrames 14 = .ok (.iconst 1, 1) := dk_4 (dk_at dksX4_leastFrames_0 14 rfl rfl)
theorem dX4_leastFrames_15 : decode cX4_leastFrames 15 = .ok (.invokevirtual 98, 3) := dk_182 0 98 (dk_at dksX4_leastFrames_0 15 rfl rfl)
theorem dX4_leastFrames_18 : decode cX4_leastFrames 18 = .ok (.ireturn, 1) := dk_172 (dk_at dksX4_leastFrames_0 18 rfl rfl)
theorem dX4_leastFrames_19 : decode cX4_leastFrames 19 = .ok (.iload_n 2, 1) := dk_28 (dk_at dksX4_leastFrames_0 19 rfl rfl)
theorem dX4_leastFrames_20 : decode cX4_leastFrames 20 = .ok (.sipush (-19998), 3) := dk_17 177 226 (dk_at dksX4_leastFrames_0 20 rfl rfl)
theorem dX4_leastFrames_23 : decode cX4_leastFrames 23 = .ok (.sipush 19998, 3) := dk_17 78 30 (dk_at dksX4_leastFrames_1 0 rfl rfl)
theorem dX4_leastFrames_26 : decode cX4_leastFrames 26 = .ok (.invokestatic 84, 3) := dk_184 0 84 (dk_at dksX4_leastFrames_1 3 rfl rfl)
theorem dX4_leastFrames_29 : decode cX4_leastFrames 29 = .ok (.ifCond .eq 12, 3) := dk_153 0 12 (dk_at dksX4_leastFrames_1 6 rfl rfl)
theorem dX4_leastFrames_32 : decode cX4_leastFrames 32 = .ok (.aload_n 0, 1) := dk_42 (dk_at dksX4_leastFrames_1 9 rfl rfl)
theorem dX4_leastFrames_33 : decode cX4_leastFrames 33 = .ok (.iload_n 1, 1) := dk_27 (dk_at dksX4_leastFrames_1 10 rfl rfl)
theorem dX4_leastFrames_34 : decode cX4_leastFrames 34 = .ok (.iload_n 2, 1) := dk_28 (dk_at dksX4_leastFrames_1 11 rfl rfl)
theorem dX4_leastFrames_35 : decode cX4_leastFrames 35 = .ok (.invokevirtual 270, 3) := dk_182 1 14 (dk_at dksX4_leastFrames_1 12 rfl rfl)
theorem dX4_leastFrames_38 : decode cX4_leastFrames 38 = .ok (.goto 8, 3) := dk_167 0 8 (dk_at dksX4_leastFrames_1 15 rfl rfl)
theorem dX4_leastFrames_41 : decode cX4_leastFrames 41 = .ok (.aload_n 0, 1) := dk_42 (dk_at dksX4_leastFrames_1 18 rfl rfl)
theorem dX4_leastFrames_42 : decode cX4_leastFrames 42 = .ok (.iconst 2, 1) := dk_5 (dk_at dksX4_leastFrames_1 19 rfl rfl)
theorem dX4_leastFrames_43 : decode cX4_leastFrames 43 = .ok (.invokevirtual 98, 3) := dk_182 0 98 (dk_at dksX4_leastFrames_1 20 rfl rfl)
theorem dX4_leastFrames_46 : decode cX4_leastFrames 46 = .ok (.ireturn, 1) := dk_172 (dk_at dksX4_leastFrames_1 23 rfl rfl)
abbrev cX4_leastOf : ByteArray := prog_17_method_57_code
def yX4_leastOf : MethodName := ⟨RX4, "leastOf", "(II)I"⟩
def dkwX4_leastOf_2 : List UInt8 := [96, 54, 4, 167, 255, 216, 21, 4, 172]
abbrev dktX4_leastOf_2 : List UInt8 := dkwX4_leastOf_2 ++ []
def dkwX4_leastOf_1 : List UInt8 := [108, 54, 6, 42, 27, 21, 6, 182, 0, 246, 29, 161, 0, 10, 21, 6, 54, 5, 167, 0, 9, 21, 6, 4]
abbrev dktX4_leastOf_1 : List UInt8 := dkwX4_leastOf_1 ++ dktX4_leastOf_2
def dkwX4_leastOf_0 : List UInt8 := [28, 184, 0, 243, 62, 3, 54, 4, 29, 54, 5, 21, 4, 21, 5, 162, 0, 39, 21, 4, 21, 5, 96, 5]
abbrev dktX4_leastOf_0 : List UInt8 := dkwX4_leastOf_0 ++ dktX4_leastOf_1
theorem dksX4_leastOf_0 : cX4_leastOf.data.toList.drop 0 = dktX4_leastOf_0 := by decide +kernel
theorem dksX4_leastOf_1 : cX4_leastOf.data.toList.drop 24 = dktX4_leastOf_1 := dk_seg dksX4_leastOf_0 24 rfl rfl
theorem dksX4_leastOf_2 : cX4_leastOf.data.toList.drop 48 = dktX4_leastOf_2 := dk_seg dksX4_leastOf_1 24 rfl rfl
theorem dX4_leastOf_0 : decode cX4_leastOf 0 = .ok (.iload_n 2, 1) := dk_28 (dk_at dksX4_leastOf_0 0 rfl rfl)
theorem dX4_leastOf_1 : decode cX4_leastOf 1 = .ok (.invokestatic 243, 3) := dk_184 0 243 (dk_at dksX4_leastOf_0 1 rfl rfl)
theorem dX4_leastOf_4 : decode cX4_leastOf 4 = .ok (.istore_n 3, 1) := dk_62 (dk_at dksX4_leastOf_0 4 rfl rfl)
theorem dX4_leastOf_5 : decode cX4_leastOf 5 = .ok (.iconst 0, 1) := dk_3 (dk_at dksX4_leastOf_0 5 rfl rfl)
theorem dX4_leastOf_6 : decode cX4_leastOf 6 = .ok (.istore 4, 2) := dk_54 4 (dk_at dksX4_leastOf_0 6 rfl rfl)
theorem dX4_leastOf_8 : decode cX4_leastOf 8 = .ok (.iload_n 3, 1) := dk_29 (dk_at dksX4_leastOf_0 8 rfl rfl)
theorem dX4_leastOf_9 : decode cX4_leastOf 9 = .ok (.istore 5, 2) := dk_54 5 (dk_at dksX4_leastOf_0 9 rfl rfl)
theorem dX4_leastOf_11 : decode cX4_leastOf 11 = .ok (.iload 4, 2) := dk_21 4 (dk_at dksX4_leastOf_0 11 rfl rfl)
theorem dX4_leastOf_13 : decode cX4_leastOf 13 = .ok (.iload 5, 2) := dk_21 5 (dk_at dksX4_leastOf_0 13 rfl rfl)
theorem dX4_leastOf_15 : decode cX4_leastOf 15 = .ok (.if_icmp .ge 39, 3) := dk_162 0 39 (dk_at dksX4_leastOf_0 15 rfl rfl)
theorem dX4_leastOf_18 : decode cX4_leastOf 18 = .ok (.iload 4, 2) := dk_21 4 (dk_at dksX4_leastOf_0 18 rfl rfl)
theorem dX4_leastOf_20 : decode cX4_leastOf 20 = .ok (.iload 5, 2) := dk_21 5 (dk_at dksX4_leastOf_0 20 rfl rfl)
theorem dX4_leastOf_22 : decode cX4_leastOf 22 = .ok (.iadd, 1) := dk_96 (dk_at dksX4_leastOf_0 22 rfl rfl)
theorem dX4_leastOf_23 : decode cX4_leastOf 23 = .ok (.iconst 2, 1) := dk_5 (dk_at dksX4_leastOf_0 23 rfl rfl)
theorem dX4_leastOf_24 : decode cX4_leastOf 24 = .ok (.idiv, 1) := dk_108 (dk_at dksX4_leastOf_1 0 rfl rfl)
theorem dX4_leastOf_25 : decode cX4_leastOf 25 = .ok (.istore 6, 2) := dk_54 6 (dk_at dksX4_leastOf_1 1 rfl rfl)
theorem dX4_leastOf_27 : decode cX4_leastOf 27 = .ok (.aload_n 0, 1) := dk_42 (dk_at dksX4_leastOf_1 3 rfl rfl)
theorem dX4_leastOf_28 : decode cX4_leastOf 28 = .ok (.iload_n 1, 1) := dk_27 (dk_at dksX4_leastOf_1 4 rfl rfl)
theorem dX4_leastOf_29 : decode cX4_leastOf 29 = .ok (.iload 6, 2) := dk_21 6 (dk_at dksX4_leastOf_1 5 rfl rfl)
theorem dX4_leastOf_31 : decode cX4_leastOf 31 = .ok (.invokevirtual 246, 3) := dk_182 0 246 (dk_at dksX4_leastOf_1 7 rfl rfl)
theorem dX4_leastOf_34 : decode cX4_leastOf 34 = .ok (.iload_n 3, 1) := dk_29 (dk_at dksX4_leastOf_1 10 rfl rfl)
theorem dX4_leastOf_35 : decode cX4_leastOf 35 = .ok (.if_icmp .lt 10, 3) := dk_161 0 10 (dk_at dksX4_leastOf_1 11 rfl rfl)
theorem dX4_leastOf_38 : decode cX4_leastOf 38 = .ok (.iload 6, 2) := dk_21 6 (dk_at dksX4_leastOf_1 14 rfl rfl)
theorem dX4_leastOf_40 : decode cX4_leastOf 40 = .ok (.istore 5, 2) := dk_54 5 (dk_at dksX4_leastOf_1 16 rfl rfl)
theorem dX4_leastOf_42 : decode cX4_leastOf 42 = .ok (.goto 9, 3) := dk_167 0 9 (dk_at dksX4_leastOf_1 18 rfl rfl)
theorem dX4_leastOf_45 : decode cX4_leastOf 45 = .ok (.iload 6, 2) := dk_21 6 (dk_at dksX4_leastOf_1 21 rfl rfl)
theorem dX4_leastOf_47 : decode cX4_leastOf 47 = .ok (.iconst 1, 1) := dk_4 (dk_at dksX4_leastOf_1 23 rfl rfl)
theorem dX4_leastOf_48 : decode cX4_leastOf 48 = .ok (.iadd, 1) := dk_96 (dk_at dksX4_leastOf_2 0 rfl rfl)
theorem dX4_leastOf_49 : decode cX4_leastOf 49 = .ok (.istore 4, 2) := dk_54 4 (dk_at dksX4_leastOf_2 1 rfl rfl)
theorem dX4_leastOf_51 : decode cX4_leastOf 51 = .ok (.goto (-40), 3) := dk_167 255 216 (dk_at dksX4_leastOf_2 3 rfl rfl)
theorem dX4_leastOf_54 : decode cX4_leastOf 54 = .ok (.iload 4, 2) := dk_21 4 (dk_at dksX4_leastOf_2 6 rfl rfl)
theorem dX4_leastOf_56 : decode cX4_leastOf 56 = .ok (.ireturn, 1) := dk_172 (dk_at dksX4_leastOf_2 8 rfl rfl)
abbrev cX4_plain : ByteArray := prog_17_method_5_code
def yX4_plain : MethodName := ⟨RX4, "plain", "(I)I"⟩
def dkwX4_plain_0 : List UInt8 := [26, 156, 0, 8, 26, 116, 167, 0, 4, 26, 172]
abbrev dktX4_plain_0 : List UInt8 := dkwX4_plain_0 ++ []
theorem dksX4_plain_0 : cX4_plain.data.toList.drop 0 = dktX4_plain_0 := by decide +kernel
theorem dX4_plain_0 : decode cX4_plain 0 = .ok (.iload_n 0, 1) := dk_26 (dk_at dksX4_plain_0 0 rfl rfl)
theorem dX4_plain_1 : decode cX4_plain 1 = .ok (.ifCond .ge 8, 3) := dk_156 0 8 (dk_at dksX4_plain_0 1 rfl rfl)
theorem dX4_plain_4 : decode cX4_plain 4 = .ok (.iload_n 0, 1) := dk_26 (dk_at dksX4_plain_0 4 rfl rfl)
theorem dX4_plain_5 : decode cX4_plain 5 = .ok (.ineg, 1) := dk_116 (dk_at dksX4_plain_0 5 rfl rfl)
theorem dX4_plain_6 : decode cX4_plain 6 = .ok (.goto 4, 3) := dk_167 0 4 (dk_at dksX4_plain_0 6 rfl rfl)
theorem dX4_plain_9 : decode cX4_plain 9 = .ok (.iload_n 0, 1) := dk_26 (dk_at dksX4_plain_0 9 rfl rfl)
theorem dX4_plain_10 : decode cX4_plain 10 = .ok (.ireturn, 1) := dk_172 (dk_at dksX4_plain_0 10 rfl rfl)
abbrev cX4_sumIn : ByteArray := prog_17_method_56_code
def yX4_sumIn : MethodName := ⟨RX4, "sumIn", "(II)I"⟩
def dkwX4_sumIn_0 : List UInt8 := [42, 3, 27, 96, 182, 0, 69, 42, 7, 27, 96, 182, 0, 69, 28, 184, 0, 239, 172]
abbrev dktX4_sumIn_0 : List UInt8 := dkwX4_sumIn_0 ++ []
theorem dksX4_sumIn_0 : cX4_sumIn.data.toList.drop 0 = dktX4_sumIn_0 := by decide +kernel
theorem dX4_sumIn_0 : decode cX4_sumIn 0 = .ok (.aload_n 0, 1) := dk_42 (dk_at dksX4_sumIn_0 0 rfl rfl)
theorem dX4_sumIn_1 : decode cX4_sumIn 1 = .ok (.iconst 0, 1) := dk_3 (dk_at dksX4_sumIn_0 1 rfl rfl)
theorem dX4_sumIn_2 : decode cX4_sumIn 2 = .ok (.iload_n 1, 1) := dk_27 (dk_at dksX4_sumIn_0 2 rfl rfl)
theorem dX4_sumIn_3 : decode cX4_sumIn 3 = .ok (.iadd, 1) := dk_96 (dk_at dksX4_sumIn_0 3 rfl rfl)
theorem dX4_sumIn_4 : decode cX4_sumIn 4 = .ok (.invokevirtual 69, 3) := dk_182 0 69 (dk_at dksX4_sumIn_0 4 rfl rfl)
theorem dX4_sumIn_7 : decode cX4_sumIn 7 = .ok (.aload_n 0, 1) := dk_42 (dk_at dksX4_sumIn_0 7 rfl rfl)
theorem dX4_sumIn_8 : decode cX4_sumIn 8 = .ok (.iconst 4, 1) := dk_7 (dk_at dksX4_sumIn_0 8 rfl rfl)
theorem dX4_sumIn_9 : decode cX4_sumIn 9 = .ok (.iload_n 1, 1) := dk_27 (dk_at dksX4_sumIn_0 9 rfl rfl)
theorem dX4_sumIn_10 : decode cX4_sumIn 10 = .ok (.iadd, 1) := dk_96 (dk_at dksX4_sumIn_0 10 rfl rfl)
theorem dX4_sumIn_11 : decode cX4_sumIn 11 = .ok (.invokevirtual 69, 3) := dk_182 0 69 (dk_at dksX4_sumIn_0 11 rfl rfl)
theorem dX4_sumIn_14 : decode cX4_sumIn 14 = .ok (.iload_n 2, 1) := dk_28 (dk_at dksX4_sumIn_0 14 rfl rfl)
theorem dX4_sumIn_15 : decode cX4_sumIn 15 = .ok (.invokestatic 239, 3) := dk_184 0 239 (dk_at dksX4_sumIn_0 15 rfl rfl)
theorem dX4_sumIn_18 : decode cX4_sumIn 18 = .ok (.ireturn, 1) := dk_172 (dk_at dksX4_sumIn_0 18 rfl rfl)
abbrev cX4_sumOf : ByteArray := prog_17_method_55_code
def yX4_sumOf : MethodName := ⟨RX4, "sumOf", "(III)I"⟩
def dkwX4_sumOf_3 : List UInt8 := [5, 112, 4, 160, 0, 8, 21, 6, 167, 0, 4, 3, 96, 172]
abbrev dktX4_sumOf_3 : List UInt8 := dkwX4_sumOf_3 ++ []
def dkwX4_sumOf_2 : List UInt8 := [29, 4, 96, 104, 26, 162, 0, 11, 27, 29, 4, 96, 104, 167, 0, 4, 26, 54, 6, 5, 21, 5, 104, 28]
abbrev dktX4_sumOf_2 : List UInt8 := dkwX4_sumOf_2 ++ dktX4_sumOf_3
def dkwX4_sumOf_1 : List UInt8 := [167, 0, 21, 27, 21, 4, 104, 21, 4, 4, 96, 104, 5, 108, 26, 29, 21, 4, 100, 104, 96, 54, 5, 27]
abbrev dktX4_sumOf_1 : List UInt8 := dkwX4_sumOf_1 ++ dktX4_sumOf_2
def dkwX4_sumOf_0 : List UInt8 := [28, 5, 108, 62, 26, 27, 108, 54, 4, 29, 21, 4, 163, 0, 15, 27, 29, 104, 29, 4, 96, 104, 5, 108]
abbrev dktX4_sumOf_0 : List UInt8 := dkwX4_sumOf_0 ++ dktX4_sumOf_1
theorem dksX4_sumOf_0 : cX4_sumOf.data.toList.drop 0 = dktX4_sumOf_0 := by decide +kernel
theorem dksX4_sumOf_1 : cX4_sumOf.data.toList.drop 24 = dktX4_sumOf_1 := dk_seg dksX4_sumOf_0 24 rfl rfl
theorem dksX4_sumOf_2 : cX4_sumOf.data.toList.drop 48 = dktX4_sumOf_2 := dk_seg dksX4_sumOf_1 24 rfl rfl
theorem dksX4_sumOf_3 : cX4_sumOf.data.toList.drop 72 = dktX4_sumOf_3 := dk_seg dksX4_sumOf_2 24 rfl rfl
theorem dX4_sumOf_0 : decode cX4_sumOf 0 = .ok (.iload_n 2, 1) := dk_28 (dk_at dksX4_sumOf_0 0 rfl rfl)
theorem dX4_sumOf_1 : decode cX4_sumOf 1 = .ok (.iconst 2, 1) := dk_5 (dk_at dksX4_sumOf_0 1 rfl rfl)
theorem dX4_sumOf_2 : decode cX4_sumOf 2 = .ok (.idiv, 1) := dk_108 (dk_at dksX4_sumOf_0 2 rfl rfl)
theorem dX4_sumOf_3 : decode cX4_sumOf 3 = .ok (.istore_n 3, 1) := dk_62 (dk_at dksX4_sumOf_0 3 rfl rfl)
theorem dX4_sumOf_4 : decode cX4_sumOf 4 = .ok (.iload_n 0, 1) := dk_26 (dk_at dksX4_sumOf_0 4 rfl rfl)
theorem dX4_sumOf_5 : decode cX4_sumOf 5 = .ok (.iload_n 1, 1) := dk_27 (dk_at dksX4_sumOf_0 5 rfl rfl)
theorem dX4_sumOf_6 : decode cX4_sumOf 6 = .ok (.idiv, 1) := dk_108 (dk_at dksX4_sumOf_0 6 rfl rfl)
theorem dX4_sumOf_7 : decode cX4_sumOf 7 = .ok (.istore 4, 2) := dk_54 4 (dk_at dksX4_sumOf_0 7 rfl rfl)
theorem dX4_sumOf_9 : decode cX4_sumOf 9 = .ok (.iload_n 3, 1) := dk_29 (dk_at dksX4_sumOf_0 9 rfl rfl)
theorem dX4_sumOf_10 : decode cX4_sumOf 10 = .ok (.iload 4, 2) := dk_21 4 (dk_at dksX4_sumOf_0 10 rfl rfl)
theorem dX4_sumOf_12 : decode cX4_sumOf 12 = .ok (.if_icmp .gt 15, 3) := dk_163 0 15 (dk_at dksX4_sumOf_0 12 rfl rfl)
theorem dX4_sumOf_15 : decode cX4_sumOf 15 = .ok (.iload_n 1, 1) := dk_27 (dk_at dksX4_sumOf_0 15 rfl rfl)
theorem dX4_sumOf_16 : decode cX4_sumOf 16 = .ok (.iload_n 3, 1) := dk_29 (dk_at dksX4_sumOf_0 16 rfl rfl)
theorem dX4_sumOf_17 : decode cX4_sumOf 17 = .ok (.imul, 1) := dk_104 (dk_at dksX4_sumOf_0 17 rfl rfl)
theorem dX4_sumOf_18 : decode cX4_sumOf 18 = .ok (.iload_n 3, 1) := dk_29 (dk_at dksX4_sumOf_0 18 rfl rfl)
theorem dX4_sumOf_19 : decode cX4_sumOf 19 = .ok (.iconst 1, 1) := dk_4 (dk_at dksX4_sumOf_0 19 rfl rfl)
theorem dX4_sumOf_20 : decode cX4_sumOf 20 = .ok (.iadd, 1) := dk_96 (dk_at dksX4_sumOf_0 20 rfl rfl)
theorem dX4_sumOf_21 : decode cX4_sumOf 21 = .ok (.imul, 1) := dk_104 (dk_at dksX4_sumOf_0 21 rfl rfl)
theorem dX4_sumOf_22 : decode cX4_sumOf 22 = .ok (.iconst 2, 1) := dk_5 (dk_at dksX4_sumOf_0 22 rfl rfl)
theorem dX4_sumOf_23 : decode cX4_sumOf 23 = .ok (.idiv, 1) := dk_108 (dk_at dksX4_sumOf_0 23 rfl rfl)
theorem dX4_sumOf_24 : decode cX4_sumOf 24 = .ok (.goto 21, 3) := dk_167 0 21 (dk_at dksX4_sumOf_1 0 rfl rfl)
theorem dX4_sumOf_27 : decode cX4_sumOf 27 = .ok (.iload_n 1, 1) := dk_27 (dk_at dksX4_sumOf_1 3 rfl rfl)
theorem dX4_sumOf_28 : decode cX4_sumOf 28 = .ok (.iload 4, 2) := dk_21 4 (dk_at dksX4_sumOf_1 4 rfl rfl)
theorem dX4_sumOf_30 : decode cX4_sumOf 30 = .ok (.imul, 1) := dk_104 (dk_at dksX4_sumOf_1 6 rfl rfl)
theorem dX4_sumOf_31 : decode cX4_sumOf 31 = .ok (.iload 4, 2) := dk_21 4 (dk_at dksX4_sumOf_1 7 rfl rfl)
theorem dX4_sumOf_33 : decode cX4_sumOf 33 = .ok (.iconst 1, 1) := dk_4 (dk_at dksX4_sumOf_1 9 rfl rfl)
theorem dX4_sumOf_34 : decode cX4_sumOf 34 = .ok (.iadd, 1) := dk_96 (dk_at dksX4_sumOf_1 10 rfl rfl)
theorem dX4_sumOf_35 : decode cX4_sumOf 35 = .ok (.imul, 1) := dk_104 (dk_at dksX4_sumOf_1 11 rfl rfl)
theorem dX4_sumOf_36 : decode cX4_sumOf 36 = .ok (.iconst 2, 1) := dk_5 (dk_at dksX4_sumOf_1 12 rfl rfl)
theorem dX4_sumOf_37 : decode cX4_sumOf 37 = .ok (.idiv, 1) := dk_108 (dk_at dksX4_sumOf_1 13 rfl rfl)
theorem dX4_sumOf_38 : decode cX4_sumOf 38 = .ok (.iload_n 0, 1) := dk_26 (dk_at dksX4_sumOf_1 14 rfl rfl)
theorem dX4_sumOf_39 : decode cX4_sumOf 39 = .ok (.iload_n 3, 1) := dk_29 (dk_at dksX4_sumOf_1 15 rfl rfl)
theorem dX4_sumOf_40 : decode cX4_sumOf 40 = .ok (.iload 4, 2) := dk_21 4 (dk_at dksX4_sumOf_1 16 rfl rfl)
theorem dX4_sumOf_42 : decode cX4_sumOf 42 = .ok (.isub, 1) := dk_100 (dk_at dksX4_sumOf_1 18 rfl rfl)
theorem dX4_sumOf_43 : decode cX4_sumOf 43 = .ok (.imul, 1) := dk_104 (dk_at dksX4_sumOf_1 19 rfl rfl)
theorem dX4_sumOf_44 : decode cX4_sumOf 44 = .ok (.iadd, 1) := dk_96 (dk_at dksX4_sumOf_1 20 rfl rfl)
theorem dX4_sumOf_45 : decode cX4_sumOf 45 = .ok (.istore 5, 2) := dk_54 5 (dk_at dksX4_sumOf_1 21 rfl rfl)
theorem dX4_sumOf_47 : decode cX4_sumOf 47 = .ok (.iload_n 1, 1) := dk_27 (dk_at dksX4_sumOf_1 23 rfl rfl)
theorem dX4_sumOf_48 : decode cX4_sumOf 48 = .ok (.iload_n 3, 1) := dk_29 (dk_at dksX4_sumOf_2 0 rfl rfl)
theorem dX4_sumOf_49 : decode cX4_sumOf 49 = .ok (.iconst 1, 1) := dk_4 (dk_at dksX4_sumOf_2 1 rfl rfl)
theorem dX4_sumOf_50 : decode cX4_sumOf 50 = .ok (.iadd, 1) := dk_96 (dk_at dksX4_sumOf_2 2 rfl rfl)
theorem dX4_sumOf_51 : decode cX4_sumOf 51 = .ok (.imul, 1) := dk_104 (dk_at dksX4_sumOf_2 3 rfl rfl)
theorem dX4_sumOf_52 : decode cX4_sumOf 52 = .ok (.iload_n 0, 1) := dk_26 (dk_at dksX4_sumOf_2 4 rfl rfl)
theorem dX4_sumOf_53 : decode cX4_sumOf 53 = .ok (.if_icmp .ge 11, 3) := dk_162 0 11 (dk_at dksX4_sumOf_2 5 rfl rfl)
theorem dX4_sumOf_56 : decode cX4_sumOf 56 = .ok (.iload_n 1, 1) := dk_27 (dk_at dksX4_sumOf_2 8 rfl rfl)
theorem dX4_sumOf_57 : decode cX4_sumOf 57 = .ok (.iload_n 3, 1) := dk_29 (dk_at dksX4_sumOf_2 9 rfl rfl)
theorem dX4_sumOf_58 : decode cX4_sumOf 58 = .ok (.iconst 1, 1) := dk_4 (dk_at dksX4_sumOf_2 10 rfl rfl)
theorem dX4_sumOf_59 : decode cX4_sumOf 59 = .ok (.iadd, 1) := dk_96 (dk_at dksX4_sumOf_2 11 rfl rfl)
theorem dX4_sumOf_60 : decode cX4_sumOf 60 = .ok (.imul, 1) := dk_104 (dk_at dksX4_sumOf_2 12 rfl rfl)
theorem dX4_sumOf_61 : decode cX4_sumOf 61 = .ok (.goto 4, 3) := dk_167 0 4 (dk_at dksX4_sumOf_2 13 rfl rfl)
theorem dX4_sumOf_64 : decode cX4_sumOf 64 = .ok (.iload_n 0, 1) := dk_26 (dk_at dksX4_sumOf_2 16 rfl rfl)
theorem dX4_sumOf_65 : decode cX4_sumOf 65 = .ok (.istore 6, 2) := dk_54 6 (dk_at dksX4_sumOf_2 17 rfl rfl)
theorem dX4_sumOf_67 : decode cX4_sumOf 67 = .ok (.iconst 2, 1) := dk_5 (dk_at dksX4_sumOf_2 19 rfl rfl)
theorem dX4_sumOf_68 : decode cX4_sumOf 68 = .ok (.iload 5, 2) := dk_21 5 (dk_at dksX4_sumOf_2 20 rfl rfl)
theorem dX4_sumOf_70 : decode cX4_sumOf 70 = .ok (.imul, 1) := dk_104 (dk_at dksX4_sumOf_2 22 rfl rfl)
theorem dX4_sumOf_71 : decode cX4_sumOf 71 = .ok (.iload_n 2, 1) := dk_28 (dk_at dksX4_sumOf_2 23 rfl rfl)
theorem dX4_sumOf_72 : decode cX4_sumOf 72 = .ok (.iconst 2, 1) := dk_5 (dk_at dksX4_sumOf_3 0 rfl rfl)
theorem dX4_sumOf_73 : decode cX4_sumOf 73 = .ok (.irem, 1) := dk_112 (dk_at dksX4_sumOf_3 1 rfl rfl)
theorem dX4_sumOf_74 : decode cX4_sumOf 74 = .ok (.iconst 1, 1) := dk_4 (dk_at dksX4_sumOf_3 2 rfl rfl)
theorem dX4_sumOf_75 : decode cX4_sumOf 75 = .ok (.if_icmp .ne 8, 3) := dk_160 0 8 (dk_at dksX4_sumOf_3 3 rfl rfl)
theorem dX4_sumOf_78 : decode cX4_sumOf 78 = .ok (.iload 6, 2) := dk_21 6 (dk_at dksX4_sumOf_3 6 rfl rfl)
theorem dX4_sumOf_80 : decode cX4_sumOf 80 = .ok (.goto 4, 3) := dk_167 0 4 (dk_at dksX4_sumOf_3 8 rfl rfl)
theorem dX4_sumOf_83 : decode cX4_sumOf 83 = .ok (.iconst 0, 1) := dk_3 (dk_at dksX4_sumOf_3 11 rfl rfl)
theorem dX4_sumOf_84 : decode cX4_sumOf 84 = .ok (.iadd, 1) := dk_96 (dk_at dksX4_sumOf_3 12 rfl rfl)
theorem dX4_sumOf_85 : decode cX4_sumOf 85 = .ok (.ireturn, 1) := dk_172 (dk_at dksX4_sumOf_3 13 rfl rfl)
abbrev cX4_rampSpeed : ByteArray := prog_17_method_63_code
def yX4_rampSpeed : MethodName := ⟨RX4, "rampSpeed", "(IIII)I"⟩
def dkwX4_rampSpeed_3 : List UInt8 := [182, 0, 98, 172, 42, 27, 28, 29, 182, 1, 17, 42, 21, 4, 182, 1, 21, 172]
abbrev dktX4_rampSpeed_3 : List UInt8 := dkwX4_rampSpeed_3 ++ []
def dkwX4_rampSpeed_2 : List UInt8 := [184, 0, 84, 154, 0, 9, 42, 5, 182, 0, 98, 172, 29, 42, 27, 28, 182, 1, 14, 162, 0, 9, 42, 6]
abbrev dktX4_rampSpeed_2 : List UInt8 := dkwX4_rampSpeed_2 ++ dktX4_rampSpeed_3
def dkwX4_rampSpeed_1 : List UInt8 := [17, 78, 30, 184, 0, 84, 153, 0, 24, 29, 4, 17, 3, 231, 184, 0, 84, 153, 0, 13, 21, 4, 4, 29]
abbrev dktX4_rampSpeed_1 : List UInt8 := dkwX4_rampSpeed_1 ++ dktX4_rampSpeed_2
def dkwX4_rampSpeed_0 : List UInt8 := [42, 3, 181, 0, 63, 42, 27, 182, 0, 220, 154, 0, 9, 42, 4, 182, 0, 98, 172, 28, 17, 177, 226]
abbrev dktX4_rampSpeed_0 : List UInt8 := dkwX4_rampSpeed_0 ++ dktX4_rampSpeed_1
theorem dksX4_rampSpeed_0 : cX4_rampSpeed.data.toList.drop 0 = dktX4_rampSpeed_0 := by decide +kernel
theorem dksX4_rampSpeed_1 : cX4_rampSpeed.data.toList.drop 23 = dktX4_rampSpeed_1 := dk_seg dksX4_rampSpeed_0 23 rfl rfl
theorem dksX4_rampSpeed_2 : cX4_rampSpeed.data.toList.drop 47 = dktX4_rampSpeed_2 := dk_seg dksX4_rampSpeed_1 24 rfl rfl
theorem dksX4_rampSpeed_3 : cX4_rampSpeed.data.toList.drop 71 = dktX4_rampSpeed_3 := dk_seg dksX4_rampSpeed_2 24 rfl rfl
theorem dX4_rampSpeed_0 : decode cX4_rampSpeed 0 = .ok (.aload_n 0, 1) := dk_42 (dk_at dksX4_rampSpeed_0 0 rfl rfl)
theorem dX4_rampSpeed_1 : decode cX4_rampSpeed 1 = .ok (.iconst 0, 1) := dk_3 (dk_at dksX4_rampSpeed_0 1 rfl rfl)
theorem dX4_rampSpeed_2 : decode cX4_rampSpeed 2 = .ok (.putfield 63, 3) := dk_181 0 63 (dk_at dksX4_rampSpeed_0 2 rfl rfl)
theorem dX4_rampSpeed_5 : decode cX4_rampSpeed 5 = .ok (.aload_n 0, 1) := dk_42 (dk_at dksX4_rampSpeed_0 5 rfl rfl)
theorem dX4_rampSpeed_6 : decode cX4_rampSpeed 6 = .ok (.iload_n 1, 1) := dk_27 (dk_at dksX4_rampSpeed_0 6 rfl rfl)
theorem dX4_rampSpeed_7 : decode cX4_rampSpeed 7 = .ok (.invokevirtual 220, 3) := dk_182 0 220 (dk_at dksX4_rampSpeed_0 7 rfl rfl)
theorem dX4_rampSpeed_10 : decode cX4_rampSpeed 10 = .ok (.ifCond .ne 9, 3) := dk_154 0 9 (dk_at dksX4_rampSpeed_0 10 rfl rfl)
theorem dX4_rampSpeed_13 : decode cX4_rampSpeed 13 = .ok (.aload_n 0, 1) := dk_42 (dk_at dksX4_rampSpeed_0 13 rfl rfl)
theorem dX4_rampSpeed_14 : decode cX4_rampSpeed 14 = .ok (.iconst 1, 1) := dk_4 (dk_at dksX4_rampSpeed_0 14 rfl rfl)
theorem dX4_rampSpeed_15 : decode cX4_rampSpeed 15 = .ok (.invokevirtual 98, 3) := dk_182 0 98 (dk_at dksX4_rampSpeed_0 15 rfl rfl)
theorem dX4_rampSpeed_18 : decode cX4_rampSpeed 18 = .ok (.ireturn, 1) := dk_172 (dk_at dksX4_rampSpeed_0 18 rfl rfl)
theorem dX4_rampSpeed_19 : decode cX4_rampSpeed 19 = .ok (.iload_n 2, 1) := dk_28 (dk_at dksX4_rampSpeed_0 19 rfl rfl)
theorem dX4_rampSpeed_20 : decode cX4_rampSpeed 20 = .ok (.sipush (-19998), 3) := dk_17 177 226 (dk_at dksX4_rampSpeed_0 20 rfl rfl)
theorem dX4_rampSpeed_23 : decode cX4_rampSpeed 23 = .ok (.sipush 19998, 3) := dk_17 78 30 (dk_at dksX4_rampSpeed_1 0 rfl rfl)
theorem dX4_rampSpeed_26 : decode cX4_rampSpeed 26 = .ok (.invokestatic 84, 3) := dk_184 0 84 (dk_at dksX4_rampSpeed_1 3 rfl rfl)
theorem dX4_rampSpeed_29 : decode cX4_rampSpeed 29 = .ok (.ifCond .eq 24, 3) := dk_153 0 24 (dk_at dksX4_rampSpeed_1 6 rfl rfl)
theorem dX4_rampSpeed_32 : decode cX4_rampSpeed 32 = .ok (.iload_n 3, 1) := dk_29 (dk_at dksX4_rampSpeed_1 9 rfl rfl)
theorem dX4_rampSpeed_33 : decode cX4_rampSpeed 33 = .ok (.iconst 1, 1) := dk_4 (dk_at dksX4_rampSpeed_1 10 rfl rfl)
theorem dX4_rampSpeed_34 : decode cX4_rampSpeed 34 = .ok (.sipush 999, 3) := dk_17 3 231 (dk_at dksX4_rampSpeed_1 11 rfl rfl)
theorem dX4_rampSpeed_37 : decode cX4_rampSpeed 37 = .ok (.invokestatic 84, 3) := dk_184 0 84 (dk_at dksX4_rampSpeed_1 14 rfl rfl)
theorem dX4_rampSpeed_40 : decode cX4_rampSpeed 40 = .ok (.ifCond .eq 13, 3) := dk_153 0 13 (dk_at dksX4_rampSpeed_1 17 rfl rfl)
theorem dX4_rampSpeed_43 : decode cX4_rampSpeed 43 = .ok (.iload 4, 2) := dk_21 4 (dk_at dksX4_rampSpeed_1 20 rfl rfl)
theorem dX4_rampSpeed_45 : decode cX4_rampSpeed 45 = .ok (.iconst 1, 1) := dk_4 (dk_at dksX4_rampSpeed_1 22 rfl rfl)
theorem dX4_rampSpeed_46 : decode cX4_rampSpeed 46 = .ok (.iload_n 3, 1) := dk_29 (dk_at dksX4_rampSpeed_1 23 rfl rfl)
theorem dX4_rampSpeed_47 : decode cX4_rampSpeed 47 = .ok (.invokestatic 84, 3) := dk_184 0 84 (dk_at dksX4_rampSpeed_2 0 rfl rfl)
theorem dX4_rampSpeed_50 : decode cX4_rampSpeed 50 = .ok (.ifCond .ne 9, 3) := dk_154 0 9 (dk_at dksX4_rampSpeed_2 3 rfl rfl)
theorem dX4_rampSpeed_53 : decode cX4_rampSpeed 53 = .ok (.aload_n 0, 1) := dk_42 (dk_at dksX4_rampSpeed_2 6 rfl rfl)
theorem dX4_rampSpeed_54 : decode cX4_rampSpeed 54 = .ok (.iconst 2, 1) := dk_5 (dk_at dksX4_rampSpeed_2 7 rfl rfl)
theorem dX4_rampSpeed_55 : decode cX4_rampSpeed 55 = .ok (.invokevirtual 98, 3) := dk_182 0 98 (dk_at dksX4_rampSpeed_2 8 rfl rfl)
theorem dX4_rampSpeed_58 : decode cX4_rampSpeed 58 = .ok (.ireturn, 1) := dk_172 (dk_at dksX4_rampSpeed_2 11 rfl rfl)
theorem dX4_rampSpeed_59 : decode cX4_rampSpeed 59 = .ok (.iload_n 3, 1) := dk_29 (dk_at dksX4_rampSpeed_2 12 rfl rfl)
theorem dX4_rampSpeed_60 : decode cX4_rampSpeed 60 = .ok (.aload_n 0, 1) := dk_42 (dk_at dksX4_rampSpeed_2 13 rfl rfl)
theorem dX4_rampSpeed_61 : decode cX4_rampSpeed 61 = .ok (.iload_n 1, 1) := dk_27 (dk_at dksX4_rampSpeed_2 14 rfl rfl)
theorem dX4_rampSpeed_62 : decode cX4_rampSpeed 62 = .ok (.iload_n 2, 1) := dk_28 (dk_at dksX4_rampSpeed_2 15 rfl rfl)
theorem dX4_rampSpeed_63 : decode cX4_rampSpeed 63 = .ok (.invokevirtual 270, 3) := dk_182 1 14 (dk_at dksX4_rampSpeed_2 16 rfl rfl)
theorem dX4_rampSpeed_66 : decode cX4_rampSpeed 66 = .ok (.if_icmp .ge 9, 3) := dk_162 0 9 (dk_at dksX4_rampSpeed_2 19 rfl rfl)
theorem dX4_rampSpeed_69 : decode cX4_rampSpeed 69 = .ok (.aload_n 0, 1) := dk_42 (dk_at dksX4_rampSpeed_2 22 rfl rfl)
theorem dX4_rampSpeed_70 : decode cX4_rampSpeed 70 = .ok (.iconst 3, 1) := dk_6 (dk_at dksX4_rampSpeed_2 23 rfl rfl)
theorem dX4_rampSpeed_71 : decode cX4_rampSpeed 71 = .ok (.invokevirtual 98, 3) := dk_182 0 98 (dk_at dksX4_rampSpeed_3 0 rfl rfl)
theorem dX4_rampSpeed_74 : decode cX4_rampSpeed 74 = .ok (.ireturn, 1) := dk_172 (dk_at dksX4_rampSpeed_3 3 rfl rfl)
theorem dX4_rampSpeed_75 : decode cX4_rampSpeed 75 = .ok (.aload_n 0, 1) := dk_42 (dk_at dksX4_rampSpeed_3 4 rfl rfl)
theorem dX4_rampSpeed_76 : decode cX4_rampSpeed 76 = .ok (.iload_n 1, 1) := dk_27 (dk_at dksX4_rampSpeed_3 5 rfl rfl)
theorem dX4_rampSpeed_77 : decode cX4_rampSpeed 77 = .ok (.iload_n 2, 1) := dk_28 (dk_at dksX4_rampSpeed_3 6 rfl rfl)
theorem dX4_rampSpeed_78 : decode cX4_rampSpeed 78 = .ok (.iload_n 3, 1) := dk_29 (dk_at dksX4_rampSpeed_3 7 rfl rfl)
theorem dX4_rampSpeed_79 : decode cX4_rampSpeed 79 = .ok (.invokevirtual 273, 3) := dk_182 1 17 (dk_at dksX4_rampSpeed_3 8 rfl rfl)
theorem dX4_rampSpeed_82 : decode cX4_rampSpeed 82 = .ok (.aload_n 0, 1) := dk_42 (dk_at dksX4_rampSpeed_3 11 rfl rfl)
theorem dX4_rampSpeed_83 : decode cX4_rampSpeed 83 = .ok (.iload 4, 2) := dk_21 4 (dk_at dksX4_rampSpeed_3 12 rfl rfl)
theorem dX4_rampSpeed_85 : decode cX4_rampSpeed 85 = .ok (.invokevirtual 277, 3) := dk_182 1 21 (dk_at dksX4_rampSpeed_3 14 rfl rfl)
theorem dX4_rampSpeed_88 : decode cX4_rampSpeed 88 = .ok (.ireturn, 1) := dk_172 (dk_at dksX4_rampSpeed_3 17 rfl rfl)
abbrev cX4_looksAt : ByteArray := prog_17_method_58_code
def yX4_looksAt : MethodName := ⟨RX4, "looksAt", "(III)V"⟩
def dkwX4_looksAt_3 : List UInt8 := [180, 1, 2, 42, 180, 0, 249, 29, 184, 0, 239, 21, 4, 100, 181, 1, 5, 177]
abbrev dktX4_looksAt_3 : List UInt8 := dkwX4_looksAt_3 ++ []
def dkwX4_looksAt_2 : List UInt8 := [29, 184, 0, 239, 21, 4, 162, 0, 16, 42, 89, 180, 1, 2, 4, 96, 181, 1, 2, 167, 255, 229, 42, 42]
abbrev dktX4_looksAt_2 : List UInt8 := dkwX4_looksAt_2 ++ dktX4_looksAt_3
def dkwX4_looksAt_1 : List UInt8 := [156, 0, 7, 2, 167, 0, 4, 4, 181, 0, 255, 42, 3, 181, 1, 2, 42, 180, 1, 2, 42, 180, 0, 249]
abbrev dktX4_looksAt_1 : List UInt8 := dkwX4_looksAt_1 ++ dktX4_looksAt_2
def dkwX4_looksAt_0 : List UInt8 := [28, 184, 0, 243, 54, 4, 42, 42, 7, 27, 96, 182, 0, 69, 181, 0, 249, 42, 29, 181, 0, 252, 42, 28]
abbrev dktX4_looksAt_0 : List UInt8 := dkwX4_looksAt_0 ++ dktX4_looksAt_1
theorem dksX4_looksAt_0 : cX4_looksAt.data.toList.drop 0 = dktX4_looksAt_0 := by decide +kernel
theorem dksX4_looksAt_1 : cX4_looksAt.data.toList.drop 24 = dktX4_looksAt_1 := dk_seg dksX4_looksAt_0 24 rfl rfl
theorem dksX4_looksAt_2 : cX4_looksAt.data.toList.drop 48 = dktX4_looksAt_2 := dk_seg dksX4_looksAt_1 24 rfl rfl
theorem dksX4_looksAt_3 : cX4_looksAt.data.toList.drop 72 = dktX4_looksAt_3 := dk_seg dksX4_looksAt_2 24 rfl rfl
theorem dX4_looksAt_0 : decode cX4_looksAt 0 = .ok (.iload_n 2, 1) := dk_28 (dk_at dksX4_looksAt_0 0 rfl rfl)
theorem dX4_looksAt_1 : decode cX4_looksAt 1 = .ok (.invokestatic 243, 3) := dk_184 0 243 (dk_at dksX4_looksAt_0 1 rfl rfl)
theorem dX4_looksAt_4 : decode cX4_looksAt 4 = .ok (.istore 4, 2) := dk_54 4 (dk_at dksX4_looksAt_0 4 rfl rfl)
theorem dX4_looksAt_6 : decode cX4_looksAt 6 = .ok (.aload_n 0, 1) := dk_42 (dk_at dksX4_looksAt_0 6 rfl rfl)
theorem dX4_looksAt_7 : decode cX4_looksAt 7 = .ok (.aload_n 0, 1) := dk_42 (dk_at dksX4_looksAt_0 7 rfl rfl)
theorem dX4_looksAt_8 : decode cX4_looksAt 8 = .ok (.iconst 4, 1) := dk_7 (dk_at dksX4_looksAt_0 8 rfl rfl)
theorem dX4_looksAt_9 : decode cX4_looksAt 9 = .ok (.iload_n 1, 1) := dk_27 (dk_at dksX4_looksAt_0 9 rfl rfl)
theorem dX4_looksAt_10 : decode cX4_looksAt 10 = .ok (.iadd, 1) := dk_96 (dk_at dksX4_looksAt_0 10 rfl rfl)
theorem dX4_looksAt_11 : decode cX4_looksAt 11 = .ok (.invokevirtual 69, 3) := dk_182 0 69 (dk_at dksX4_looksAt_0 11 rfl rfl)
theorem dX4_looksAt_14 : decode cX4_looksAt 14 = .ok (.putfield 249, 3) := dk_181 0 249 (dk_at dksX4_looksAt_0 14 rfl rfl)
theorem dX4_looksAt_17 : decode cX4_looksAt 17 = .ok (.aload_n 0, 1) := dk_42 (dk_at dksX4_looksAt_0 17 rfl rfl)
theorem dX4_looksAt_18 : decode cX4_looksAt 18 = .ok (.iload_n 3, 1) := dk_29 (dk_at dksX4_looksAt_0 18 rfl rfl)
theorem dX4_looksAt_19 : decode cX4_looksAt 19 = .ok (.putfield 252, 3) := dk_181 0 252 (dk_at dksX4_looksAt_0 19 rfl rfl)
theorem dX4_looksAt_22 : decode cX4_looksAt 22 = .ok (.aload_n 0, 1) := dk_42 (dk_at dksX4_looksAt_0 22 rfl rfl)
theorem dX4_looksAt_23 : decode cX4_looksAt 23 = .ok (.iload_n 2, 1) := dk_28 (dk_at dksX4_looksAt_0 23 rfl rfl)
theorem dX4_looksAt_24 : decode cX4_looksAt 24 = .ok (.ifCond .ge 7, 3) := dk_156 0 7 (dk_at dksX4_looksAt_1 0 rfl rfl)
theorem dX4_looksAt_27 : decode cX4_looksAt 27 = .ok (.iconst (-1), 1) := dk_2 (dk_at dksX4_looksAt_1 3 rfl rfl)
theorem dX4_looksAt_28 : decode cX4_looksAt 28 = .ok (.goto 4, 3) := dk_167 0 4 (dk_at dksX4_looksAt_1 4 rfl rfl)
theorem dX4_looksAt_31 : decode cX4_looksAt 31 = .ok (.iconst 1, 1) := dk_4 (dk_at dksX4_looksAt_1 7 rfl rfl)
theorem dX4_looksAt_32 : decode cX4_looksAt 32 = .ok (.putfield 255, 3) := dk_181 0 255 (dk_at dksX4_looksAt_1 8 rfl rfl)
theorem dX4_looksAt_35 : decode cX4_looksAt 35 = .ok (.aload_n 0, 1) := dk_42 (dk_at dksX4_looksAt_1 11 rfl rfl)
theorem dX4_looksAt_36 : decode cX4_looksAt 36 = .ok (.iconst 0, 1) := dk_3 (dk_at dksX4_looksAt_1 12 rfl rfl)
theorem dX4_looksAt_37 : decode cX4_looksAt 37 = .ok (.putfield 258, 3) := dk_181 1 2 (dk_at dksX4_looksAt_1 13 rfl rfl)
theorem dX4_looksAt_40 : decode cX4_looksAt 40 = .ok (.aload_n 0, 1) := dk_42 (dk_at dksX4_looksAt_1 16 rfl rfl)
theorem dX4_looksAt_41 : decode cX4_looksAt 41 = .ok (.getfield 258, 3) := dk_180 1 2 (dk_at dksX4_looksAt_1 17 rfl rfl)
theorem dX4_looksAt_44 : decode cX4_looksAt 44 = .ok (.aload_n 0, 1) := dk_42 (dk_at dksX4_looksAt_1 20 rfl rfl)
theorem dX4_looksAt_45 : decode cX4_looksAt 45 = .ok (.getfield 249, 3) := dk_180 0 249 (dk_at dksX4_looksAt_1 21 rfl rfl)
theorem dX4_looksAt_48 : decode cX4_looksAt 48 = .ok (.iload_n 3, 1) := dk_29 (dk_at dksX4_looksAt_2 0 rfl rfl)
theorem dX4_looksAt_49 : decode cX4_looksAt 49 = .ok (.invokestatic 239, 3) := dk_184 0 239 (dk_at dksX4_looksAt_2 1 rfl rfl)
theorem dX4_looksAt_52 : decode cX4_looksAt 52 = .ok (.iload 4, 2) := dk_21 4 (dk_at dksX4_looksAt_2 4 rfl rfl)
theorem dX4_looksAt_54 : decode cX4_looksAt 54 = .ok (.if_icmp .ge 16, 3) := dk_162 0 16 (dk_at dksX4_looksAt_2 6 rfl rfl)
theorem dX4_looksAt_57 : decode cX4_looksAt 57 = .ok (.aload_n 0, 1) := dk_42 (dk_at dksX4_looksAt_2 9 rfl rfl)
theorem dX4_looksAt_58 : decode cX4_looksAt 58 = .ok (.dup, 1) := dk_89 (dk_at dksX4_looksAt_2 10 rfl rfl)
theorem dX4_looksAt_59 : decode cX4_looksAt 59 = .ok (.getfield 258, 3) := dk_180 1 2 (dk_at dksX4_looksAt_2 11 rfl rfl)
theorem dX4_looksAt_62 : decode cX4_looksAt 62 = .ok (.iconst 1, 1) := dk_4 (dk_at dksX4_looksAt_2 14 rfl rfl)
theorem dX4_looksAt_63 : decode cX4_looksAt 63 = .ok (.iadd, 1) := dk_96 (dk_at dksX4_looksAt_2 15 rfl rfl)
theorem dX4_looksAt_64 : decode cX4_looksAt 64 = .ok (.putfield 258, 3) := dk_181 1 2 (dk_at dksX4_looksAt_2 16 rfl rfl)
theorem dX4_looksAt_67 : decode cX4_looksAt 67 = .ok (.goto (-27), 3) := dk_167 255 229 (dk_at dksX4_looksAt_2 19 rfl rfl)
theorem dX4_looksAt_70 : decode cX4_looksAt 70 = .ok (.aload_n 0, 1) := dk_42 (dk_at dksX4_looksAt_2 22 rfl rfl)
theorem dX4_looksAt_71 : decode cX4_looksAt 71 = .ok (.aload_n 0, 1) := dk_42 (dk_at dksX4_looksAt_2 23 rfl rfl)
theorem dX4_looksAt_72 : decode cX4_looksAt 72 = .ok (.getfield 258, 3) := dk_180 1 2 (dk_at dksX4_looksAt_3 0 rfl rfl)
theorem dX4_looksAt_75 : decode cX4_looksAt 75 = .ok (.aload_n 0, 1) := dk_42 (dk_at dksX4_looksAt_3 3 rfl rfl)
theorem dX4_looksAt_76 : decode cX4_looksAt 76 = .ok (.getfield 249, 3) := dk_180 0 249 (dk_at dksX4_looksAt_3 4 rfl rfl)
theorem dX4_looksAt_79 : decode cX4_looksAt 79 = .ok (.iload_n 3, 1) := dk_29 (dk_at dksX4_looksAt_3 7 rfl rfl)
theorem dX4_looksAt_80 : decode cX4_looksAt 80 = .ok (.invokestatic 239, 3) := dk_184 0 239 (dk_at dksX4_looksAt_3 8 rfl rfl)
theorem dX4_looksAt_83 : decode cX4_looksAt 83 = .ok (.iload 4, 2) := dk_21 4 (dk_at dksX4_looksAt_3 11 rfl rfl)
theorem dX4_looksAt_85 : decode cX4_looksAt 85 = .ok (.isub, 1) := dk_100 (dk_at dksX4_looksAt_3 13 rfl rfl)
theorem dX4_looksAt_86 : decode cX4_looksAt 86 = .ok (.putfield 261, 3) := dk_181 1 5 (dk_at dksX4_looksAt_3 14 rfl rfl)
theorem dX4_looksAt_89 : decode cX4_looksAt 89 = .ok (.return_, 1) := dk_177 (dk_at dksX4_looksAt_3 17 rfl rfl)
abbrev cX4_speedIn : ByteArray := prog_17_method_61_code
def yX4_speedIn : MethodName := ⟨RX4, "speedIn", "(I)I"⟩
def dkwX4_speedIn_2 : List UInt8 := [27, 182, 1, 8, 104, 172]
abbrev dktX4_speedIn_2 : List UInt8 := dkwX4_speedIn_2 ++ []
def dkwX4_speedIn_1 : List UInt8 := [4, 167, 0, 4, 3, 61, 42, 180, 0, 255, 28, 153, 0, 12, 42, 180, 1, 2, 4, 100, 167, 0, 8, 42]
abbrev dktX4_speedIn_1 : List UInt8 := dkwX4_speedIn_1 ++ dktX4_speedIn_2
def dkwX4_speedIn_0 : List UInt8 := [42, 27, 182, 1, 8, 42, 180, 1, 2, 160, 0, 19, 42, 27, 182, 1, 11, 42, 180, 1, 5, 163, 0, 7]
abbrev dktX4_speedIn_0 : List UInt8 := dkwX4_speedIn_0 ++ dktX4_speedIn_1
theorem dksX4_speedIn_0 : cX4_speedIn.data.toList.drop 0 = dktX4_speedIn_0 := by decide +kernel
theorem dksX4_speedIn_1 : cX4_speedIn.data.toList.drop 24 = dktX4_speedIn_1 := dk_seg dksX4_speedIn_0 24 rfl rfl
theorem dksX4_speedIn_2 : cX4_speedIn.data.toList.drop 48 = dktX4_speedIn_2 := dk_seg dksX4_speedIn_1 24 rfl rfl
theorem dX4_speedIn_0 : decode cX4_speedIn 0 = .ok (.aload_n 0, 1) := dk_42 (dk_at dksX4_speedIn_0 0 rfl rfl)
theorem dX4_speedIn_1 : decode cX4_speedIn 1 = .ok (.iload_n 1, 1) := dk_27 (dk_at dksX4_speedIn_0 1 rfl rfl)
theorem dX4_speedIn_2 : decode cX4_speedIn 2 = .ok (.invokevirtual 264, 3) := dk_182 1 8 (dk_at dksX4_speedIn_0 2 rfl rfl)
theorem dX4_speedIn_5 : decode cX4_speedIn 5 = .ok (.aload_n 0, 1) := dk_42 (dk_at dksX4_speedIn_0 5 rfl rfl)
theorem dX4_speedIn_6 : decode cX4_speedIn 6 = .ok (.getfield 258, 3) := dk_180 1 2 (dk_at dksX4_speedIn_0 6 rfl rfl)
theorem dX4_speedIn_9 : decode cX4_speedIn 9 = .ok (.if_icmp .ne 19, 3) := dk_160 0 19 (dk_at dksX4_speedIn_0 9 rfl rfl)
theorem dX4_speedIn_12 : decode cX4_speedIn 12 = .ok (.aload_n 0, 1) := dk_42 (dk_at dksX4_speedIn_0 12 rfl rfl)
theorem dX4_speedIn_13 : decode cX4_speedIn 13 = .ok (.iload_n 1, 1) := dk_27 (dk_at dksX4_speedIn_0 13 rfl rfl)
theorem dX4_speedIn_14 : decode cX4_speedIn 14 = .ok (.invokevirtual 267, 3) := dk_182 1 11 (dk_at dksX4_speedIn_0 14 rfl rfl)
theorem dX4_speedIn_17 : decode cX4_speedIn 17 = .ok (.aload_n 0, 1) := dk_42 (dk_at dksX4_speedIn_0 17 rfl rfl)
theorem dX4_speedIn_18 : decode cX4_speedIn 18 = .ok (.getfield 261, 3) := dk_180 1 5 (dk_at dksX4_speedIn_0 18 rfl rfl)
theorem dX4_speedIn_21 : decode cX4_speedIn 21 = .ok (.if_icmp .gt 7, 3) := dk_163 0 7 (dk_at dksX4_speedIn_0 21 rfl rfl)
theorem dX4_speedIn_24 : decode cX4_speedIn 24 = .ok (.iconst 1, 1) := dk_4 (dk_at dksX4_speedIn_1 0 rfl rfl)
theorem dX4_speedIn_25 : decode cX4_speedIn 25 = .ok (.goto 4, 3) := dk_167 0 4 (dk_at dksX4_speedIn_1 1 rfl rfl)
theorem dX4_speedIn_28 : decode cX4_speedIn 28 = .ok (.iconst 0, 1) := dk_3 (dk_at dksX4_speedIn_1 4 rfl rfl)
theorem dX4_speedIn_29 : decode cX4_speedIn 29 = .ok (.istore_n 2, 1) := dk_61 (dk_at dksX4_speedIn_1 5 rfl rfl)
theorem dX4_speedIn_30 : decode cX4_speedIn 30 = .ok (.aload_n 0, 1) := dk_42 (dk_at dksX4_speedIn_1 6 rfl rfl)
theorem dX4_speedIn_31 : decode cX4_speedIn 31 = .ok (.getfield 255, 3) := dk_180 0 255 (dk_at dksX4_speedIn_1 7 rfl rfl)
theorem dX4_speedIn_34 : decode cX4_speedIn 34 = .ok (.iload_n 2, 1) := dk_28 (dk_at dksX4_speedIn_1 10 rfl rfl)
theorem dX4_speedIn_35 : decode cX4_speedIn 35 = .ok (.ifCond .eq 12, 3) := dk_153 0 12 (dk_at dksX4_speedIn_1 11 rfl rfl)
theorem dX4_speedIn_38 : decode cX4_speedIn 38 = .ok (.aload_n 0, 1) := dk_42 (dk_at dksX4_speedIn_1 14 rfl rfl)
theorem dX4_speedIn_39 : decode cX4_speedIn 39 = .ok (.getfield 258, 3) := dk_180 1 2 (dk_at dksX4_speedIn_1 15 rfl rfl)
theorem dX4_speedIn_42 : decode cX4_speedIn 42 = .ok (.iconst 1, 1) := dk_4 (dk_at dksX4_speedIn_1 18 rfl rfl)
theorem dX4_speedIn_43 : decode cX4_speedIn 43 = .ok (.isub, 1) := dk_100 (dk_at dksX4_speedIn_1 19 rfl rfl)
theorem dX4_speedIn_44 : decode cX4_speedIn 44 = .ok (.goto 8, 3) := dk_167 0 8 (dk_at dksX4_speedIn_1 20 rfl rfl)
theorem dX4_speedIn_47 : decode cX4_speedIn 47 = .ok (.aload_n 0, 1) := dk_42 (dk_at dksX4_speedIn_1 23 rfl rfl)
theorem dX4_speedIn_48 : decode cX4_speedIn 48 = .ok (.iload_n 1, 1) := dk_27 (dk_at dksX4_speedIn_2 0 rfl rfl)
theorem dX4_speedIn_49 : decode cX4_speedIn 49 = .ok (.invokevirtual 264, 3) := dk_182 1 8 (dk_at dksX4_speedIn_2 1 rfl rfl)
theorem dX4_speedIn_52 : decode cX4_speedIn 52 = .ok (.imul, 1) := dk_104 (dk_at dksX4_speedIn_2 4 rfl rfl)
theorem dX4_speedIn_53 : decode cX4_speedIn 53 = .ok (.ireturn, 1) := dk_172 (dk_at dksX4_speedIn_2 5 rfl rfl)
abbrev cX4_rawSpeed : ByteArray := prog_17_method_59_code
def yX4_rawSpeed : MethodName := ⟨RX4, "rawSpeed", "(I)I"⟩
def dkwX4_rawSpeed_2 : List UInt8 := [180, 1, 2, 172]
abbrev dktX4_rawSpeed_2 : List UInt8 := dkwX4_rawSpeed_2 ++ []
def dkwX4_rawSpeed_1 : List UInt8 := [61, 42, 180, 0, 249, 28, 104, 42, 180, 1, 2, 162, 0, 12, 42, 180, 0, 249, 28, 104, 167, 0, 7, 42]
abbrev dktX4_rawSpeed_1 : List UInt8 := dkwX4_rawSpeed_1 ++ dktX4_rawSpeed_2
def dkwX4_rawSpeed_0 : List UInt8 := [27, 42, 180, 0, 252, 4, 96, 27, 100, 162, 0, 7, 27, 167, 0, 11, 42, 180, 0, 252, 4, 96, 27, 100]
abbrev dktX4_rawSpeed_0 : List UInt8 := dkwX4_rawSpeed_0 ++ dktX4_rawSpeed_1
theorem dksX4_rawSpeed_0 : cX4_rawSpeed.data.toList.drop 0 = dktX4_rawSpeed_0 := by decide +kernel
theorem dksX4_rawSpeed_1 : cX4_rawSpeed.data.toList.drop 24 = dktX4_rawSpeed_1 := dk_seg dksX4_rawSpeed_0 24 rfl rfl
theorem dksX4_rawSpeed_2 : cX4_rawSpeed.data.toList.drop 48 = dktX4_rawSpeed_2 := dk_seg dksX4_rawSpeed_1 24 rfl rfl
theorem dX4_rawSpeed_0 : decode cX4_rawSpeed 0 = .ok (.iload_n 1, 1) := dk_27 (dk_at dksX4_rawSpeed_0 0 rfl rfl)
theorem dX4_rawSpeed_1 : decode cX4_rawSpeed 1 = .ok (.aload_n 0, 1) := dk_42 (dk_at dksX4_rawSpeed_0 1 rfl rfl)
theorem dX4_rawSpeed_2 : decode cX4_rawSpeed 2 = .ok (.getfield 252, 3) := dk_180 0 252 (dk_at dksX4_rawSpeed_0 2 rfl rfl)
theorem dX4_rawSpeed_5 : decode cX4_rawSpeed 5 = .ok (.iconst 1, 1) := dk_4 (dk_at dksX4_rawSpeed_0 5 rfl rfl)
theorem dX4_rawSpeed_6 : decode cX4_rawSpeed 6 = .ok (.iadd, 1) := dk_96 (dk_at dksX4_rawSpeed_0 6 rfl rfl)
theorem dX4_rawSpeed_7 : decode cX4_rawSpeed 7 = .ok (.iload_n 1, 1) := dk_27 (dk_at dksX4_rawSpeed_0 7 rfl rfl)
theorem dX4_rawSpeed_8 : decode cX4_rawSpeed 8 = .ok (.isub, 1) := dk_100 (dk_at dksX4_rawSpeed_0 8 rfl rfl)
theorem dX4_rawSpeed_9 : decode cX4_rawSpeed 9 = .ok (.if_icmp .ge 7, 3) := dk_162 0 7 (dk_at dksX4_rawSpeed_0 9 rfl rfl)
theorem dX4_rawSpeed_12 : decode cX4_rawSpeed 12 = .ok (.iload_n 1, 1) := dk_27 (dk_at dksX4_rawSpeed_0 12 rfl rfl)
theorem dX4_rawSpeed_13 : decode cX4_rawSpeed 13 = .ok (.goto 11, 3) := dk_167 0 11 (dk_at dksX4_rawSpeed_0 13 rfl rfl)
theorem dX4_rawSpeed_16 : decode cX4_rawSpeed 16 = .ok (.aload_n 0, 1) := dk_42 (dk_at dksX4_rawSpeed_0 16 rfl rfl)
theorem dX4_rawSpeed_17 : decode cX4_rawSpeed 17 = .ok (.getfield 252, 3) := dk_180 0 252 (dk_at dksX4_rawSpeed_0 17 rfl rfl)
theorem dX4_rawSpeed_20 : decode cX4_rawSpeed 20 = .ok (.iconst 1, 1) := dk_4 (dk_at dksX4_rawSpeed_0 20 rfl rfl)
theorem dX4_rawSpeed_21 : decode cX4_rawSpeed 21 = .ok (.iadd, 1) := dk_96 (dk_at dksX4_rawSpeed_0 21 rfl rfl)
theorem dX4_rawSpeed_22 : decode cX4_rawSpeed 22 = .ok (.iload_n 1, 1) := dk_27 (dk_at dksX4_rawSpeed_0 22 rfl rfl)
theorem dX4_rawSpeed_23 : decode cX4_rawSpeed 23 = .ok (.isub, 1) := dk_100 (dk_at dksX4_rawSpeed_0 23 rfl rfl)
theorem dX4_rawSpeed_24 : decode cX4_rawSpeed 24 = .ok (.istore_n 2, 1) := dk_61 (dk_at dksX4_rawSpeed_1 0 rfl rfl)
theorem dX4_rawSpeed_25 : decode cX4_rawSpeed 25 = .ok (.aload_n 0, 1) := dk_42 (dk_at dksX4_rawSpeed_1 1 rfl rfl)
theorem dX4_rawSpeed_26 : decode cX4_rawSpeed 26 = .ok (.getfield 249, 3) := dk_180 0 249 (dk_at dksX4_rawSpeed_1 2 rfl rfl)
theorem dX4_rawSpeed_29 : decode cX4_rawSpeed 29 = .ok (.iload_n 2, 1) := dk_28 (dk_at dksX4_rawSpeed_1 5 rfl rfl)
theorem dX4_rawSpeed_30 : decode cX4_rawSpeed 30 = .ok (.imul, 1) := dk_104 (dk_at dksX4_rawSpeed_1 6 rfl rfl)
theorem dX4_rawSpeed_31 : decode cX4_rawSpeed 31 = .ok (.aload_n 0, 1) := dk_42 (dk_at dksX4_rawSpeed_1 7 rfl rfl)
theorem dX4_rawSpeed_32 : decode cX4_rawSpeed 32 = .ok (.getfield 258, 3) := dk_180 1 2 (dk_at dksX4_rawSpeed_1 8 rfl rfl)
theorem dX4_rawSpeed_35 : decode cX4_rawSpeed 35 = .ok (.if_icmp .ge 12, 3) := dk_162 0 12 (dk_at dksX4_rawSpeed_1 11 rfl rfl)
theorem dX4_rawSpeed_38 : decode cX4_rawSpeed 38 = .ok (.aload_n 0, 1) := dk_42 (dk_at dksX4_rawSpeed_1 14 rfl rfl)
theorem dX4_rawSpeed_39 : decode cX4_rawSpeed 39 = .ok (.getfield 249, 3) := dk_180 0 249 (dk_at dksX4_rawSpeed_1 15 rfl rfl)
theorem dX4_rawSpeed_42 : decode cX4_rawSpeed 42 = .ok (.iload_n 2, 1) := dk_28 (dk_at dksX4_rawSpeed_1 18 rfl rfl)
theorem dX4_rawSpeed_43 : decode cX4_rawSpeed 43 = .ok (.imul, 1) := dk_104 (dk_at dksX4_rawSpeed_1 19 rfl rfl)
theorem dX4_rawSpeed_44 : decode cX4_rawSpeed 44 = .ok (.goto 7, 3) := dk_167 0 7 (dk_at dksX4_rawSpeed_1 20 rfl rfl)
theorem dX4_rawSpeed_47 : decode cX4_rawSpeed 47 = .ok (.aload_n 0, 1) := dk_42 (dk_at dksX4_rawSpeed_1 23 rfl rfl)
theorem dX4_rawSpeed_48 : decode cX4_rawSpeed 48 = .ok (.getfield 258, 3) := dk_180 1 2 (dk_at dksX4_rawSpeed_2 0 rfl rfl)
theorem dX4_rawSpeed_51 : decode cX4_rawSpeed 51 = .ok (.ireturn, 1) := dk_172 (dk_at dksX4_rawSpeed_2 3 rfl rfl)
abbrev cX4_peaksUpTo : ByteArray := prog_17_method_60_code
def yX4_peaksUpTo : MethodName := ⟨RX4, "peaksUpTo", "(I)I"⟩
def dkwX4_peaksUpTo_1 : List UInt8 := [132, 3, 1, 167, 255, 233, 28, 172]
abbrev dktX4_peaksUpTo_1 : List UInt8 := dkwX4_peaksUpTo_1 ++ []
def dkwX4_peaksUpTo_0 : List UInt8 := [3, 61, 4, 62, 29, 27, 163, 0, 24, 42, 29, 182, 1, 8, 42, 180, 1, 2, 160, 0, 6, 132, 2, 1]
abbrev dktX4_peaksUpTo_0 : List UInt8 := dkwX4_peaksUpTo_0 ++ dktX4_peaksUpTo_1
theorem dksX4_peaksUpTo_0 : cX4_peaksUpTo.data.toList.drop 0 = dktX4_peaksUpTo_0 := by decide +kernel
theorem dksX4_peaksUpTo_1 : cX4_peaksUpTo.data.toList.drop 24 = dktX4_peaksUpTo_1 := dk_seg dksX4_peaksUpTo_0 24 rfl rfl
theorem dX4_peaksUpTo_0 : decode cX4_peaksUpTo 0 = .ok (.iconst 0, 1) := dk_3 (dk_at dksX4_peaksUpTo_0 0 rfl rfl)
theorem dX4_peaksUpTo_1 : decode cX4_peaksUpTo 1 = .ok (.istore_n 2, 1) := dk_61 (dk_at dksX4_peaksUpTo_0 1 rfl rfl)
theorem dX4_peaksUpTo_2 : decode cX4_peaksUpTo 2 = .ok (.iconst 1, 1) := dk_4 (dk_at dksX4_peaksUpTo_0 2 rfl rfl)
theorem dX4_peaksUpTo_3 : decode cX4_peaksUpTo 3 = .ok (.istore_n 3, 1) := dk_62 (dk_at dksX4_peaksUpTo_0 3 rfl rfl)
theorem dX4_peaksUpTo_4 : decode cX4_peaksUpTo 4 = .ok (.iload_n 3, 1) := dk_29 (dk_at dksX4_peaksUpTo_0 4 rfl rfl)
theorem dX4_peaksUpTo_5 : decode cX4_peaksUpTo 5 = .ok (.iload_n 1, 1) := dk_27 (dk_at dksX4_peaksUpTo_0 5 rfl rfl)
theorem dX4_peaksUpTo_6 : decode cX4_peaksUpTo 6 = .ok (.if_icmp .gt 24, 3) := dk_163 0 24 (dk_at dksX4_peaksUpTo_0 6 rfl rfl)
theorem dX4_peaksUpTo_9 : decode cX4_peaksUpTo 9 = .ok (.aload_n 0, 1) := dk_42 (dk_at dksX4_peaksUpTo_0 9 rfl rfl)
theorem dX4_peaksUpTo_10 : decode cX4_peaksUpTo 10 = .ok (.iload_n 3, 1) := dk_29 (dk_at dksX4_peaksUpTo_0 10 rfl rfl)
theorem dX4_peaksUpTo_11 : decode cX4_peaksUpTo 11 = .ok (.invokevirtual 264, 3) := dk_182 1 8 (dk_at dksX4_peaksUpTo_0 11 rfl rfl)
theorem dX4_peaksUpTo_14 : decode cX4_peaksUpTo 14 = .ok (.aload_n 0, 1) := dk_42 (dk_at dksX4_peaksUpTo_0 14 rfl rfl)
theorem dX4_peaksUpTo_15 : decode cX4_peaksUpTo 15 = .ok (.getfield 258, 3) := dk_180 1 2 (dk_at dksX4_peaksUpTo_0 15 rfl rfl)
theorem dX4_peaksUpTo_18 : decode cX4_peaksUpTo 18 = .ok (.if_icmp .ne 6, 3) := dk_160 0 6 (dk_at dksX4_peaksUpTo_0 18 rfl rfl)
theorem dX4_peaksUpTo_21 : decode cX4_peaksUpTo 21 = .ok (.iinc 2 1, 3) := dk_132 2 1 (dk_at dksX4_peaksUpTo_0 21 rfl rfl)
theorem dX4_peaksUpTo_24 : decode cX4_peaksUpTo 24 = .ok (.iinc 3 1, 3) := dk_132 3 1 (dk_at dksX4_peaksUpTo_1 0 rfl rfl)
theorem dX4_peaksUpTo_27 : decode cX4_peaksUpTo 27 = .ok (.goto (-23), 3) := dk_167 255 233 (dk_at dksX4_peaksUpTo_1 3 rfl rfl)
theorem dX4_peaksUpTo_30 : decode cX4_peaksUpTo 30 = .ok (.iload_n 2, 1) := dk_28 (dk_at dksX4_peaksUpTo_1 6 rfl rfl)
theorem dX4_peaksUpTo_31 : decode cX4_peaksUpTo 31 = .ok (.ireturn, 1) := dk_172 (dk_at dksX4_peaksUpTo_1 7 rfl rfl)
abbrev cX4_reach : ByteArray := prog_17_method_64_code
def yX4_reach : MethodName := ⟨RX4, "reach", "(II)I"⟩
def dkwX4_reach_1 : List UInt8 := [184, 0, 84, 153, 0, 12, 42, 27, 28, 182, 0, 246, 167, 0, 8, 42, 5, 182, 0, 98, 172]
abbrev dktX4_reach_1 : List UInt8 := dkwX4_reach_1 ++ []
def dkwX4_reach_0 : List UInt8 := [42, 3, 181, 0, 63, 42, 27, 182, 0, 220, 154, 0, 9, 42, 4, 182, 0, 98, 172, 28, 4, 17, 3, 231]
abbrev dktX4_reach_0 : List UInt8 := dkwX4_reach_0 ++ dktX4_reach_1
theorem dksX4_reach_0 : cX4_reach.data.toList.drop 0 = dktX4_reach_0 := by decide +kernel
theorem dksX4_reach_1 : cX4_reach.data.toList.drop 24 = dktX4_reach_1 := dk_seg dksX4_reach_0 24 rfl rfl
theorem dX4_reach_0 : decode cX4_reach 0 = .ok (.aload_n 0, 1) := dk_42 (dk_at dksX4_reach_0 0 rfl rfl)
theorem dX4_reach_1 : decode cX4_reach 1 = .ok (.iconst 0, 1) := dk_3 (dk_at dksX4_reach_0 1 rfl rfl)
theorem dX4_reach_2 : decode cX4_reach 2 = .ok (.putfield 63, 3) := dk_181 0 63 (dk_at dksX4_reach_0 2 rfl rfl)
theorem dX4_reach_5 : decode cX4_reach 5 = .ok (.aload_n 0, 1) := dk_42 (dk_at dksX4_reach_0 5 rfl rfl)
theorem dX4_reach_6 : decode cX4_reach 6 = .ok (.iload_n 1, 1) := dk_27 (dk_at dksX4_reach_0 6 rfl rfl)
theorem dX4_reach_7 : decode cX4_reach 7 = .ok (.invokevirtual 220, 3) := dk_182 0 220 (dk_at dksX4_reach_0 7 rfl rfl)
theorem dX4_reach_10 : decode cX4_reach 10 = .ok (.ifCond .ne 9, 3) := dk_154 0 9 (dk_at dksX4_reach_0 10 rfl rfl)
theorem dX4_reach_13 : decode cX4_reach 13 = .ok (.aload_n 0, 1) := dk_42 (dk_at dksX4_reach_0 13 rfl rfl)
theorem dX4_reach_14 : decode cX4_reach 14 = .ok (.iconst 1, 1) := dk_4 (dk_at dksX4_reach_0 14 rfl rfl)
theorem dX4_reach_15 : decode cX4_reach 15 = .ok (.invokevirtual 98, 3) := dk_182 0 98 (dk_at dksX4_reach_0 15 rfl rfl)
theorem dX4_reach_18 : decode cX4_reach 18 = .ok (.ireturn, 1) := dk_172 (dk_at dksX4_reach_0 18 rfl rfl)
theorem dX4_reach_19 : decode cX4_reach 19 = .ok (.iload_n 2, 1) := dk_28 (dk_at dksX4_reach_0 19 rfl rfl)
theorem dX4_reach_20 : decode cX4_reach 20 = .ok (.iconst 1, 1) := dk_4 (dk_at dksX4_reach_0 20 rfl rfl)
theorem dX4_reach_21 : decode cX4_reach 21 = .ok (.sipush 999, 3) := dk_17 3 231 (dk_at dksX4_reach_0 21 rfl rfl)
theorem dX4_reach_24 : decode cX4_reach 24 = .ok (.invokestatic 84, 3) := dk_184 0 84 (dk_at dksX4_reach_1 0 rfl rfl)
theorem dX4_reach_27 : decode cX4_reach 27 = .ok (.ifCond .eq 12, 3) := dk_153 0 12 (dk_at dksX4_reach_1 3 rfl rfl)
theorem dX4_reach_30 : decode cX4_reach 30 = .ok (.aload_n 0, 1) := dk_42 (dk_at dksX4_reach_1 6 rfl rfl)
theorem dX4_reach_31 : decode cX4_reach 31 = .ok (.iload_n 1, 1) := dk_27 (dk_at dksX4_reach_1 7 rfl rfl)
theorem dX4_reach_32 : decode cX4_reach 32 = .ok (.iload_n 2, 1) := dk_28 (dk_at dksX4_reach_1 8 rfl rfl)
theorem dX4_reach_33 : decode cX4_reach 33 = .ok (.invokevirtual 246, 3) := dk_182 0 246 (dk_at dksX4_reach_1 9 rfl rfl)
theorem dX4_reach_36 : decode cX4_reach 36 = .ok (.goto 8, 3) := dk_167 0 8 (dk_at dksX4_reach_1 12 rfl rfl)
theorem dX4_reach_39 : decode cX4_reach 39 = .ok (.aload_n 0, 1) := dk_42 (dk_at dksX4_reach_1 15 rfl rfl)
theorem dX4_reach_40 : decode cX4_reach 40 = .ok (.iconst 2, 1) := dk_5 (dk_at dksX4_reach_1 16 rfl rfl)
theorem dX4_reach_41 : decode cX4_reach 41 = .ok (.invokevirtual 98, 3) := dk_182 0 98 (dk_at dksX4_reach_1 17 rfl rfl)
theorem dX4_reach_44 : decode cX4_reach 44 = .ok (.ireturn, 1) := dk_172 (dk_at dksX4_reach_1 20 rfl rfl)
abbrev cX4_status : ByteArray := prog_17_method_67_code
def yX4_status : MethodName := ⟨RX4, "status", "(II)I"⟩
def dkwX4_status_0 : List UInt8 := [42, 27, 28, 182, 0, 236, 154, 0, 5, 3, 172, 42, 28, 182, 1, 27, 42, 180, 0, 40, 27, 46, 172]
abbrev dktX4_status_0 : List UInt8 := dkwX4_status_0 ++ []
theorem dksX4_status_0 : cX4_status.data.toList.drop 0 = dktX4_status_0 := by decide +kernel
theorem dX4_status_0 : decode cX4_status 0 = .ok (.aload_n 0, 1) := dk_42 (dk_at dksX4_status_0 0 rfl rfl)
theorem dX4_status_1 : decode cX4_status 1 = .ok (.iload_n 1, 1) := dk_27 (dk_at dksX4_status_0 1 rfl rfl)
theorem dX4_status_2 : decode cX4_status 2 = .ok (.iload_n 2, 1) := dk_28 (dk_at dksX4_status_0 2 rfl rfl)
theorem dX4_status_3 : decode cX4_status 3 = .ok (.invokevirtual 236, 3) := dk_182 0 236 (dk_at dksX4_status_0 3 rfl rfl)
theorem dX4_status_6 : decode cX4_status 6 = .ok (.ifCond .ne 5, 3) := dk_154 0 5 (dk_at dksX4_status_0 6 rfl rfl)
theorem dX4_status_9 : decode cX4_status 9 = .ok (.iconst 0, 1) := dk_3 (dk_at dksX4_status_0 9 rfl rfl)
theorem dX4_status_10 : decode cX4_status 10 = .ok (.ireturn, 1) := dk_172 (dk_at dksX4_status_0 10 rfl rfl)
theorem dX4_status_11 : decode cX4_status 11 = .ok (.aload_n 0, 1) := dk_42 (dk_at dksX4_status_0 11 rfl rfl)
theorem dX4_status_12 : decode cX4_status 12 = .ok (.iload_n 2, 1) := dk_28 (dk_at dksX4_status_0 12 rfl rfl)
theorem dX4_status_13 : decode cX4_status 13 = .ok (.invokevirtual 283, 3) := dk_182 1 27 (dk_at dksX4_status_0 13 rfl rfl)
theorem dX4_status_16 : decode cX4_status 16 = .ok (.aload_n 0, 1) := dk_42 (dk_at dksX4_status_0 16 rfl rfl)
theorem dX4_status_17 : decode cX4_status 17 = .ok (.getfield 40, 3) := dk_180 0 40 (dk_at dksX4_status_0 17 rfl rfl)
theorem dX4_status_20 : decode cX4_status 20 = .ok (.iload_n 1, 1) := dk_27 (dk_at dksX4_status_0 20 rfl rfl)
theorem dX4_status_21 : decode cX4_status 21 = .ok (.iaload, 1) := dk_46 (dk_at dksX4_status_0 21 rfl rfl)
theorem dX4_status_22 : decode cX4_status 22 = .ok (.ireturn, 1) := dk_172 (dk_at dksX4_status_0 22 rfl rfl)
abbrev cX4_takesAll : ByteArray := prog_17_method_66_code
def yX4_takesAll : MethodName := ⟨RX4, "takesAll", "(I)V"⟩
def dkwX4_takesAll_8 : List UInt8 := [54, 4, 167, 255, 112, 177]
abbrev dktX4_takesAll_8 : List UInt8 := dkwX4_takesAll_8 ++ []
def dkwX4_takesAll_7 : List UInt8 := [21, 4, 46, 154, 0, 16, 42, 21, 4, 6, 27, 96, 182, 0, 77, 61, 21, 4, 62, 42, 27, 182, 1, 24]
abbrev dktX4_takesAll_7 : List UInt8 := dkwX4_takesAll_7 ++ dktX4_takesAll_8
def dkwX4_takesAll_6 : List UInt8 := [42, 180, 0, 43, 21, 4, 46, 182, 1, 14, 162, 0, 7, 5, 167, 0, 4, 3, 79, 42, 180, 0, 40]
abbrev dktX4_takesAll_6 : List UInt8 := dkwX4_takesAll_6 ++ dktX4_takesAll_7
def dkwX4_takesAll_5 : List UInt8 := [42, 180, 0, 40, 21, 4, 21, 6, 153, 0, 7, 4, 167, 0, 30, 42, 21, 4, 4, 182, 0, 77, 42, 27]
abbrev dktX4_takesAll_5 : List UInt8 := dkwX4_takesAll_5 ++ dktX4_takesAll_6
def dkwX4_takesAll_4 : List UInt8 := [167, 0, 4, 3, 54, 6, 42, 180, 0, 43, 21, 4, 42, 21, 4, 6, 27, 96, 182, 0, 77, 28, 100, 79]
abbrev dktX4_takesAll_4 : List UInt8 := dkwX4_takesAll_4 ++ dktX4_takesAll_5
def dkwX4_takesAll_3 : List UInt8 := [159, 0, 25, 42, 29, 3, 182, 0, 77, 42, 29, 4, 182, 0, 77, 96, 21, 5, 164, 0, 7, 4]
abbrev dktX4_takesAll_3 : List UInt8 := dkwX4_takesAll_3 ++ dktX4_takesAll_4
def dkwX4_takesAll_2 : List UInt8 := [159, 0, 144, 42, 180, 0, 46, 21, 4, 4, 84, 42, 21, 4, 3, 182, 0, 77, 54, 5, 29, 2]
abbrev dktX4_takesAll_2 : List UInt8 := dkwX4_takesAll_2 ++ dktX4_takesAll_3
def dkwX4_takesAll_1 : List UInt8 := [180, 0, 17, 6, 27, 104, 5, 96, 46, 61, 2, 62, 42, 27, 182, 1, 24, 54, 4, 21, 4, 2]
abbrev dktX4_takesAll_1 : List UInt8 := dkwX4_takesAll_1 ++ dktX4_takesAll_2
def dkwX4_takesAll_0 : List UInt8 := [3, 61, 28, 42, 182, 0, 88, 162, 0, 16, 42, 180, 0, 46, 28, 3, 84, 132, 2, 1, 167, 255, 238, 42]
abbrev dktX4_takesAll_0 : List UInt8 := dkwX4_takesAll_0 ++ dktX4_takesAll_1
theorem dksX4_takesAll_0 : cX4_takesAll.data.toList.drop 0 = dktX4_takesAll_0 := by decide +kernel
theorem dksX4_takesAll_1 : cX4_takesAll.data.toList.drop 24 = dktX4_takesAll_1 := dk_seg dksX4_takesAll_0 24 rfl rfl
theorem dksX4_takesAll_2 : cX4_takesAll.data.toList.drop 46 = dktX4_takesAll_2 := dk_seg dksX4_takesAll_1 22 rfl rfl
theorem dksX4_takesAll_3 : cX4_takesAll.data.toList.drop 68 = dktX4_takesAll_3 := dk_seg dksX4_takesAll_2 22 rfl rfl
theorem dksX4_takesAll_4 : cX4_takesAll.data.toList.drop 90 = dktX4_takesAll_4 := dk_seg dksX4_takesAll_3 22 rfl rfl
theorem dksX4_takesAll_5 : cX4_takesAll.data.toList.drop 114 = dktX4_takesAll_5 := dk_seg dksX4_takesAll_4 24 rfl rfl
theorem dksX4_takesAll_6 : cX4_takesAll.data.toList.drop 138 = dktX4_takesAll_6 := dk_seg dksX4_takesAll_5 24 rfl rfl
theorem dksX4_takesAll_7 : cX4_takesAll.data.toList.drop 161 = dktX4_takesAll_7 := dk_seg dksX4_takesAll_6 23 rfl rfl
theorem dksX4_takesAll_8 : cX4_takesAll.data.toList.drop 185 = dktX4_takesAll_8 := dk_seg dksX4_takesAll_7 24 rfl rfl
theorem dX4_takesAll_0 : decode cX4_takesAll 0 = .ok (.iconst 0, 1) := dk_3 (dk_at dksX4_takesAll_0 0 rfl rfl)
theorem dX4_takesAll_1 : decode cX4_takesAll 1 = .ok (.istore_n 2, 1) := dk_61 (dk_at dksX4_takesAll_0 1 rfl rfl)
theorem dX4_takesAll_2 : decode cX4_takesAll 2 = .ok (.iload_n 2, 1) := dk_28 (dk_at dksX4_takesAll_0 2 rfl rfl)
theorem dX4_takesAll_3 : decode cX4_takesAll 3 = .ok (.aload_n 0, 1) := dk_42 (dk_at dksX4_takesAll_0 3 rfl rfl)
theorem dX4_takesAll_4 : decode cX4_takesAll 4 = .ok (.invokevirtual 88, 3) := dk_182 0 88 (dk_at dksX4_takesAll_0 4 rfl rfl)
theorem dX4_takesAll_7 : decode cX4_takesAll 7 = .ok (.if_icmp .ge 16, 3) := dk_162 0 16 (dk_at dksX4_takesAll_0 7 rfl rfl)
theorem dX4_takesAll_10 : decode cX4_takesAll 10 = .ok (.aload_n 0, 1) := dk_42 (dk_at dksX4_takesAll_0 10 rfl rfl)
theorem dX4_takesAll_11 : decode cX4_takesAll 11 = .ok (.getfield 46, 3) := dk_180 0 46 (dk_at dksX4_takesAll_0 11 rfl rfl)
theorem dX4_takesAll_14 : decode cX4_takesAll 14 = .ok (.iload_n 2, 1) := dk_28 (dk_at dksX4_takesAll_0 14 rfl rfl)
theorem dX4_takesAll_15 : decode cX4_takesAll 15 = .ok (.iconst 0, 1) := dk_3 (dk_at dksX4_takesAll_0 15 rfl rfl)
theorem dX4_takesAll_16 : decode cX4_takesAll 16 = .ok (.bastore, 1) := dk_84 (dk_at dksX4_takesAll_0 16 rfl rfl)
theorem dX4_takesAll_17 : decode cX4_takesAll 17 = .ok (.iinc 2 1, 3) := dk_132 2 1 (dk_at dksX4_takesAll_0 17 rfl rfl)
theorem dX4_takesAll_20 : decode cX4_takesAll 20 = .ok (.goto (-18), 3) := dk_167 255 238 (dk_at dksX4_takesAll_0 20 rfl rfl)
theorem dX4_takesAll_23 : decode cX4_takesAll 23 = .ok (.aload_n 0, 1) := dk_42 (dk_at dksX4_takesAll_0 23 rfl rfl)
theorem dX4_takesAll_24 : decode cX4_takesAll 24 = .ok (.getfield 17, 3) := dk_180 0 17 (dk_at dksX4_takesAll_1 0 rfl rfl)
theorem dX4_takesAll_27 : decode cX4_takesAll 27 = .ok (.iconst 3, 1) := dk_6 (dk_at dksX4_takesAll_1 3 rfl rfl)
theorem dX4_takesAll_28 : decode cX4_takesAll 28 = .ok (.iload_n 1, 1) := dk_27 (dk_at dksX4_takesAll_1 4 rfl rfl)
theorem dX4_takesAll_29 : decode cX4_takesAll 29 = .ok (.imul, 1) := dk_104 (dk_at dksX4_takesAll_1 5 rfl rfl)
theorem dX4_takesAll_30 : decode cX4_takesAll 30 = .ok (.iconst 2, 1) := dk_5 (dk_at dksX4_takesAll_1 6 rfl rfl)
theorem dX4_takesAll_31 : decode cX4_takesAll 31 = .ok (.iadd, 1) := dk_96 (dk_at dksX4_takesAll_1 7 rfl rfl)
theorem dX4_takesAll_32 : decode cX4_takesAll 32 = .ok (.iaload, 1) := dk_46 (dk_at dksX4_takesAll_1 8 rfl rfl)
theorem dX4_takesAll_33 : decode cX4_takesAll 33 = .ok (.istore_n 2, 1) := dk_61 (dk_at dksX4_takesAll_1 9 rfl rfl)
theorem dX4_takesAll_34 : decode cX4_takesAll 34 = .ok (.iconst (-1), 1) := dk_2 (dk_at dksX4_takesAll_1 10 rfl rfl)
theorem dX4_takesAll_35 : decode cX4_takesAll 35 = .ok (.istore_n 3, 1) := dk_62 (dk_at dksX4_takesAll_1 11 rfl rfl)
theorem dX4_takesAll_36 : decode cX4_takesAll 36 = .ok (.aload_n 0, 1) := dk_42 (dk_at dksX4_takesAll_1 12 rfl rfl)
theorem dX4_takesAll_37 : decode cX4_takesAll 37 = .ok (.iload_n 1, 1) := dk_27 (dk_at dksX4_takesAll_1 13 rfl rfl)
theorem dX4_takesAll_38 : decode cX4_takesAll 38 = .ok (.invokevirtual 280, 3) := dk_182 1 24 (dk_at dksX4_takesAll_1 14 rfl rfl)
theorem dX4_takesAll_41 : decode cX4_takesAll 41 = .ok (.istore 4, 2) := dk_54 4 (dk_at dksX4_takesAll_1 17 rfl rfl)
theorem dX4_takesAll_43 : decode cX4_takesAll 43 = .ok (.iload 4, 2) := dk_21 4 (dk_at dksX4_takesAll_1 19 rfl rfl)
theorem dX4_takesAll_45 : decode cX4_takesAll 45 = .ok (.iconst (-1), 1) := dk_2 (dk_at dksX4_takesAll_1 21 rfl rfl)
theorem dX4_takesAll_46 : decode cX4_takesAll 46 = .ok (.if_icmp .eq 144, 3) := dk_159 0 144 (dk_at dksX4_takesAll_2 0 rfl rfl)
theorem dX4_takesAll_49 : decode cX4_takesAll 49 = .ok (.aload_n 0, 1) := dk_42 (dk_at dksX4_takesAll_2 3 rfl rfl)
theorem dX4_takesAll_50 : decode cX4_takesAll 50 = .ok (.getfield 46, 3) := dk_180 0 46 (dk_at dksX4_takesAll_2 4 rfl rfl)
theorem dX4_takesAll_53 : decode cX4_takesAll 53 = .ok (.iload 4, 2) := dk_21 4 (dk_at dksX4_takesAll_2 7 rfl rfl)
theorem dX4_takesAll_55 : decode cX4_takesAll 55 = .ok (.iconst 1, 1) := dk_4 (dk_at dksX4_takesAll_2 9 rfl rfl)
theorem dX4_takesAll_56 : decode cX4_takesAll 56 = .ok (.bastore, 1) := dk_84 (dk_at dksX4_takesAll_2 10 rfl rfl)
theorem dX4_takesAll_57 : decode cX4_takesAll 57 = .ok (.aload_n 0, 1) := dk_42 (dk_at dksX4_takesAll_2 11 rfl rfl)
theorem dX4_takesAll_58 : decode cX4_takesAll 58 = .ok (.iload 4, 2) := dk_21 4 (dk_at dksX4_takesAll_2 12 rfl rfl)
theorem dX4_takesAll_60 : decode cX4_takesAll 60 = .ok (.iconst 0, 1) := dk_3 (dk_at dksX4_takesAll_2 14 rfl rfl)
theorem dX4_takesAll_61 : decode cX4_takesAll 61 = .ok (.invokevirtual 77, 3) := dk_182 0 77 (dk_at dksX4_takesAll_2 15 rfl rfl)
theorem dX4_takesAll_64 : decode cX4_takesAll 64 = .ok (.istore 5, 2) := dk_54 5 (dk_at dksX4_takesAll_2 18 rfl rfl)
theorem dX4_takesAll_66 : decode cX4_takesAll 66 = .ok (.iload_n 3, 1) := dk_29 (dk_at dksX4_takesAll_2 20 rfl rfl)
theorem dX4_takesAll_67 : decode cX4_takesAll 67 = .ok (.iconst (-1), 1) := dk_2 (dk_at dksX4_takesAll_2 21 rfl rfl)
theorem dX4_takesAll_68 : decode cX4_takesAll 68 = .ok (.if_icmp .eq 25, 3) := dk_159 0 25 (dk_at dksX4_takesAll_3 0 rfl rfl)
theorem dX4_takesAll_71 : decode cX4_takesAll 71 = .ok (.aload_n 0, 1) := dk_42 (dk_at dksX4_takesAll_3 3 rfl rfl)
theorem dX4_takesAll_72 : decode cX4_takesAll 72 = .ok (.iload_n 3, 1) := dk_29 (dk_at dksX4_takesAll_3 4 rfl rfl)
theorem dX4_takesAll_73 : decode cX4_takesAll 73 = .ok (.iconst 0, 1) := dk_3 (dk_at dksX4_takesAll_3 5 rfl rfl)
theorem dX4_takesAll_74 : decode cX4_takesAll 74 = .ok (.invokevirtual 77, 3) := dk_182 0 77 (dk_at dksX4_takesAll_3 6 rfl rfl)
theorem dX4_takesAll_77 : decode cX4_takesAll 77 = .ok (.aload_n 0, 1) := dk_42 (dk_at dksX4_takesAll_3 9 rfl rfl)
theorem dX4_takesAll_78 : decode cX4_takesAll 78 = .ok (.iload_n 3, 1) := dk_29 (dk_at dksX4_takesAll_3 10 rfl rfl)
theorem dX4_takesAll_79 : decode cX4_takesAll 79 = .ok (.iconst 1, 1) := dk_4 (dk_at dksX4_takesAll_3 11 rfl rfl)
theorem dX4_takesAll_80 : decode cX4_takesAll 80 = .ok (.invokevirtual 77, 3) := dk_182 0 77 (dk_at dksX4_takesAll_3 12 rfl rfl)
theorem dX4_takesAll_83 : decode cX4_takesAll 83 = .ok (.iadd, 1) := dk_96 (dk_at dksX4_takesAll_3 15 rfl rfl)
theorem dX4_takesAll_84 : decode cX4_takesAll 84 = .ok (.iload 5, 2) := dk_21 5 (dk_at dksX4_takesAll_3 16 rfl rfl)
theorem dX4_takesAll_86 : decode cX4_takesAll 86 = .ok (.if_icmp .le 7, 3) := dk_164 0 7 (dk_at dksX4_takesAll_3 18 rfl rfl)
theorem dX4_takesAll_89 : decode cX4_takesAll 89 = .ok (.iconst 1, 1) := dk_4 (dk_at dksX4_takesAll_3 21 rfl rfl)
theorem dX4_takesAll_90 : decode cX4_takesAll 90 = .ok (.goto 4, 3) := dk_167 0 4 (dk_at dksX4_takesAll_4 0 rfl rfl)
theorem dX4_takesAll_93 : decode cX4_takesAll 93 = .ok (.iconst 0, 1) := dk_3 (dk_at dksX4_takesAll_4 3 rfl rfl)
theorem dX4_takesAll_94 : decode cX4_takesAll 94 = .ok (.istore 6, 2) := dk_54 6 (dk_at dksX4_takesAll_4 4 rfl rfl)
theorem dX4_takesAll_96 : decode cX4_takesAll 96 = .ok (.aload_n 0, 1) := dk_42 (dk_at dksX4_takesAll_4 6 rfl rfl)
theorem dX4_takesAll_97 : decode cX4_takesAll 97 = .ok (.getfield 43, 3) := dk_180 0 43 (dk_at dksX4_takesAll_4 7 rfl rfl)
theorem dX4_takesAll_100 : decode cX4_takesAll 100 = .ok (.iload 4, 2) := dk_21 4 (dk_at dksX4_takesAll_4 10 rfl rfl)
theorem dX4_takesAll_102 : decode cX4_takesAll 102 = .ok (.aload_n 0, 1) := dk_42 (dk_at dksX4_takesAll_4 12 rfl rfl)
theorem dX4_takesAll_103 : decode cX4_takesAll 103 = .ok (.iload 4, 2) := dk_21 4 (dk_at dksX4_takesAll_4 13 rfl rfl)
theorem dX4_takesAll_105 : decode cX4_takesAll 105 = .ok (.iconst 3, 1) := dk_6 (dk_at dksX4_takesAll_4 15 rfl rfl)
theorem dX4_takesAll_106 : decode cX4_takesAll 106 = .ok (.iload_n 1, 1) := dk_27 (dk_at dksX4_takesAll_4 16 rfl rfl)
theorem dX4_takesAll_107 : decode cX4_takesAll 107 = .ok (.iadd, 1) := dk_96 (dk_at dksX4_takesAll_4 17 rfl rfl)
theorem dX4_takesAll_108 : decode cX4_takesAll 108 = .ok (.invokevirtual 77, 3) := dk_182 0 77 (dk_at dksX4_takesAll_4 18 rfl rfl)
theorem dX4_takesAll_111 : decode cX4_takesAll 111 = .ok (.iload_n 2, 1) := dk_28 (dk_at dksX4_takesAll_4 21 rfl rfl)
theorem dX4_takesAll_112 : decode cX4_takesAll 112 = .ok (.isub, 1) := dk_100 (dk_at dksX4_takesAll_4 22 rfl rfl)
theorem dX4_takesAll_113 : decode cX4_takesAll 113 = .ok (.iastore, 1) := dk_79 (dk_at dksX4_takesAll_4 23 rfl rfl)
theorem dX4_takesAll_114 : decode cX4_takesAll 114 = .ok (.aload_n 0, 1) := dk_42 (dk_at dksX4_takesAll_5 0 rfl rfl)
theorem dX4_takesAll_115 : decode cX4_takesAll 115 = .ok (.getfield 40, 3) := dk_180 0 40 (dk_at dksX4_takesAll_5 1 rfl rfl)
theorem dX4_takesAll_118 : decode cX4_takesAll 118 = .ok (.iload 4, 2) := dk_21 4 (dk_at dksX4_takesAll_5 4 rfl rfl)
theorem dX4_takesAll_120 : decode cX4_takesAll 120 = .ok (.iload 6, 2) := dk_21 6 (dk_at dksX4_takesAll_5 6 rfl rfl)
theorem dX4_takesAll_122 : decode cX4_takesAll 122 = .ok (.ifCond .eq 7, 3) := dk_153 0 7 (dk_at dksX4_takesAll_5 8 rfl rfl)
theorem dX4_takesAll_125 : decode cX4_takesAll 125 = .ok (.iconst 1, 1) := dk_4 (dk_at dksX4_takesAll_5 11 rfl rfl)
theorem dX4_takesAll_126 : decode cX4_takesAll 126 = .ok (.goto 30, 3) := dk_167 0 30 (dk_at dksX4_takesAll_5 12 rfl rfl)
theorem dX4_takesAll_129 : decode cX4_takesAll 129 = .ok (.aload_n 0, 1) := dk_42 (dk_at dksX4_takesAll_5 15 rfl rfl)
theorem dX4_takesAll_130 : decode cX4_takesAll 130 = .ok (.iload 4, 2) := dk_21 4 (dk_at dksX4_takesAll_5 16 rfl rfl)
theorem dX4_takesAll_132 : decode cX4_takesAll 132 = .ok (.iconst 1, 1) := dk_4 (dk_at dksX4_takesAll_5 18 rfl rfl)
theorem dX4_takesAll_133 : decode cX4_takesAll 133 = .ok (.invokevirtual 77, 3) := dk_182 0 77 (dk_at dksX4_takesAll_5 19 rfl rfl)
theorem dX4_takesAll_136 : decode cX4_takesAll 136 = .ok (.aload_n 0, 1) := dk_42 (dk_at dksX4_takesAll_5 22 rfl rfl)
theorem dX4_takesAll_137 : decode cX4_takesAll 137 = .ok (.iload_n 1, 1) := dk_27 (dk_at dksX4_takesAll_5 23 rfl rfl)
theorem dX4_takesAll_138 : decode cX4_takesAll 138 = .ok (.aload_n 0, 1) := dk_42 (dk_at dksX4_takesAll_6 0 rfl rfl)
theorem dX4_takesAll_139 : decode cX4_takesAll 139 = .ok (.getfield 43, 3) := dk_180 0 43 (dk_at dksX4_takesAll_6 1 rfl rfl)
theorem dX4_takesAll_142 : decode cX4_takesAll 142 = .ok (.iload 4, 2) := dk_21 4 (dk_at dksX4_takesAll_6 4 rfl rfl)
theorem dX4_takesAll_144 : decode cX4_takesAll 144 = .ok (.iaload, 1) := dk_46 (dk_at dksX4_takesAll_6 6 rfl rfl)
theorem dX4_takesAll_145 : decode cX4_takesAll 145 = .ok (.invokevirtual 270, 3) := dk_182 1 14 (dk_at dksX4_takesAll_6 7 rfl rfl)
theorem dX4_takesAll_148 : decode cX4_takesAll 148 = .ok (.if_icmp .ge 7, 3) := dk_162 0 7 (dk_at dksX4_takesAll_6 10 rfl rfl)
theorem dX4_takesAll_151 : decode cX4_takesAll 151 = .ok (.iconst 2, 1) := dk_5 (dk_at dksX4_takesAll_6 13 rfl rfl)
theorem dX4_takesAll_152 : decode cX4_takesAll 152 = .ok (.goto 4, 3) := dk_167 0 4 (dk_at dksX4_takesAll_6 14 rfl rfl)
theorem dX4_takesAll_155 : decode cX4_takesAll 155 = .ok (.iconst 0, 1) := dk_3 (dk_at dksX4_takesAll_6 17 rfl rfl)
theorem dX4_takesAll_156 : decode cX4_takesAll 156 = .ok (.iastore, 1) := dk_79 (dk_at dksX4_takesAll_6 18 rfl rfl)
theorem dX4_takesAll_157 : decode cX4_takesAll 157 = .ok (.aload_n 0, 1) := dk_42 (dk_at dksX4_takesAll_6 19 rfl rfl)
theorem dX4_takesAll_158 : decode cX4_takesAll 158 = .ok (.getfield 40, 3) := dk_180 0 40 (dk_at dksX4_takesAll_6 20 rfl rfl)
theorem dX4_takesAll_161 : decode cX4_takesAll 161 = .ok (.iload 4, 2) := dk_21 4 (dk_at dksX4_takesAll_7 0 rfl rfl)
theorem dX4_takesAll_163 : decode cX4_takesAll 163 = .ok (.iaload, 1) := dk_46 (dk_at dksX4_takesAll_7 2 rfl rfl)
theorem dX4_takesAll_164 : decode cX4_takesAll 164 = .ok (.ifCond .ne 16, 3) := dk_154 0 16 (dk_at dksX4_takesAll_7 3 rfl rfl)
theorem dX4_takesAll_167 : decode cX4_takesAll 167 = .ok (.aload_n 0, 1) := dk_42 (dk_at dksX4_takesAll_7 6 rfl rfl)
theorem dX4_takesAll_168 : decode cX4_takesAll 168 = .ok (.iload 4, 2) := dk_21 4 (dk_at dksX4_takesAll_7 7 rfl rfl)
theorem dX4_takesAll_170 : decode cX4_takesAll 170 = .ok (.iconst 3, 1) := dk_6 (dk_at dksX4_takesAll_7 9 rfl rfl)
theorem dX4_takesAll_171 : decode cX4_takesAll 171 = .ok (.iload_n 1, 1) := dk_27 (dk_at dksX4_takesAll_7 10 rfl rfl)
theorem dX4_takesAll_172 : decode cX4_takesAll 172 = .ok (.iadd, 1) := dk_96 (dk_at dksX4_takesAll_7 11 rfl rfl)
theorem dX4_takesAll_173 : decode cX4_takesAll 173 = .ok (.invokevirtual 77, 3) := dk_182 0 77 (dk_at dksX4_takesAll_7 12 rfl rfl)
theorem dX4_takesAll_176 : decode cX4_takesAll 176 = .ok (.istore_n 2, 1) := dk_61 (dk_at dksX4_takesAll_7 15 rfl rfl)
theorem dX4_takesAll_177 : decode cX4_takesAll 177 = .ok (.iload 4, 2) := dk_21 4 (dk_at dksX4_takesAll_7 16 rfl rfl)
theorem dX4_takesAll_179 : decode cX4_takesAll 179 = .ok (.istore_n 3, 1) := dk_62 (dk_at dksX4_takesAll_7 18 rfl rfl)
theorem dX4_takesAll_180 : decode cX4_takesAll 180 = .ok (.aload_n 0, 1) := dk_42 (dk_at dksX4_takesAll_7 19 rfl rfl)
theorem dX4_takesAll_181 : decode cX4_takesAll 181 = .ok (.iload_n 1, 1) := dk_27 (dk_at dksX4_takesAll_7 20 rfl rfl)
theorem dX4_takesAll_182 : decode cX4_takesAll 182 = .ok (.invokevirtual 280, 3) := dk_182 1 24 (dk_at dksX4_takesAll_7 21 rfl rfl)
theorem dX4_takesAll_185 : decode cX4_takesAll 185 = .ok (.istore 4, 2) := dk_54 4 (dk_at dksX4_takesAll_8 0 rfl rfl)
theorem dX4_takesAll_187 : decode cX4_takesAll 187 = .ok (.goto (-144), 3) := dk_167 255 112 (dk_at dksX4_takesAll_8 2 rfl rfl)
theorem dX4_takesAll_190 : decode cX4_takesAll 190 = .ok (.return_, 1) := dk_177 (dk_at dksX4_takesAll_8 5 rfl rfl)
abbrev cX4_nextCue : ByteArray := prog_17_method_65_code
def yX4_nextCue : MethodName := ⟨RX4, "nextCue", "(I)I"⟩
def dkwX4_nextCue_2 : List UInt8 := [182, 0, 77, 162, 0, 5, 29, 61, 132, 3, 1, 167, 255, 202, 28, 172]
abbrev dktX4_nextCue_2 : List UInt8 := dkwX4_nextCue_2 ++ []
def dkwX4_nextCue_1 : List UInt8 := [182, 0, 232, 154, 0, 6, 167, 0, 25, 28, 2, 159, 0, 18, 42, 29, 3, 182, 0, 77, 42, 28, 3]
abbrev dktX4_nextCue_1 : List UInt8 := dkwX4_nextCue_1 ++ dktX4_nextCue_2
def dkwX4_nextCue_0 : List UInt8 := [2, 61, 3, 62, 29, 42, 182, 0, 88, 162, 0, 52, 42, 180, 0, 46, 29, 51, 154, 0, 37, 42, 29, 27]
abbrev dktX4_nextCue_0 : List UInt8 := dkwX4_nextCue_0 ++ dktX4_nextCue_1
theorem dksX4_nextCue_0 : cX4_nextCue.data.toList.drop 0 = dktX4_nextCue_0 := by decide +kernel
theorem dksX4_nextCue_1 : cX4_nextCue.data.toList.drop 24 = dktX4_nextCue_1 := dk_seg dksX4_nextCue_0 24 rfl rfl
theorem dksX4_nextCue_2 : cX4_nextCue.data.toList.drop 47 = dktX4_nextCue_2 := dk_seg dksX4_nextCue_1 23 rfl rfl
theorem dX4_nextCue_0 : decode cX4_nextCue 0 = .ok (.iconst (-1), 1) := dk_2 (dk_at dksX4_nextCue_0 0 rfl rfl)
theorem dX4_nextCue_1 : decode cX4_nextCue 1 = .ok (.istore_n 2, 1) := dk_61 (dk_at dksX4_nextCue_0 1 rfl rfl)
theorem dX4_nextCue_2 : decode cX4_nextCue 2 = .ok (.iconst 0, 1) := dk_3 (dk_at dksX4_nextCue_0 2 rfl rfl)
theorem dX4_nextCue_3 : decode cX4_nextCue 3 = .ok (.istore_n 3, 1) := dk_62 (dk_at dksX4_nextCue_0 3 rfl rfl)
theorem dX4_nextCue_4 : decode cX4_nextCue 4 = .ok (.iload_n 3, 1) := dk_29 (dk_at dksX4_nextCue_0 4 rfl rfl)
theorem dX4_nextCue_5 : decode cX4_nextCue 5 = .ok (.aload_n 0, 1) := dk_42 (dk_at dksX4_nextCue_0 5 rfl rfl)
theorem dX4_nextCue_6 : decode cX4_nextCue 6 = .ok (.invokevirtual 88, 3) := dk_182 0 88 (dk_at dksX4_nextCue_0 6 rfl rfl)
theorem dX4_nextCue_9 : decode cX4_nextCue 9 = .ok (.if_icmp .ge 52, 3) := dk_162 0 52 (dk_at dksX4_nextCue_0 9 rfl rfl)
theorem dX4_nextCue_12 : decode cX4_nextCue 12 = .ok (.aload_n 0, 1) := dk_42 (dk_at dksX4_nextCue_0 12 rfl rfl)
theorem dX4_nextCue_13 : decode cX4_nextCue 13 = .ok (.getfield 46, 3) := dk_180 0 46 (dk_at dksX4_nextCue_0 13 rfl rfl)
theorem dX4_nextCue_16 : decode cX4_nextCue 16 = .ok (.iload_n 3, 1) := dk_29 (dk_at dksX4_nextCue_0 16 rfl rfl)
theorem dX4_nextCue_17 : decode cX4_nextCue 17 = .ok (.baload, 1) := dk_51 (dk_at dksX4_nextCue_0 17 rfl rfl)
theorem dX4_nextCue_18 : decode cX4_nextCue 18 = .ok (.ifCond .ne 37, 3) := dk_154 0 37 (dk_at dksX4_nextCue_0 18 rfl rfl)
theorem dX4_nextCue_21 : decode cX4_nextCue 21 = .ok (.aload_n 0, 1) := dk_42 (dk_at dksX4_nextCue_0 21 rfl rfl)
theorem dX4_nextCue_22 : decode cX4_nextCue 22 = .ok (.iload_n 3, 1) := dk_29 (dk_at dksX4_nextCue_0 22 rfl rfl)
theorem dX4_nextCue_23 : decode cX4_nextCue 23 = .ok (.iload_n 1, 1) := dk_27 (dk_at dksX4_nextCue_0 23 rfl rfl)
theorem dX4_nextCue_24 : decode cX4_nextCue 24 = .ok (.invokevirtual 232, 3) := dk_182 0 232 (dk_at dksX4_nextCue_1 0 rfl rfl)
theorem dX4_nextCue_27 : decode cX4_nextCue 27 = .ok (.ifCond .ne 6, 3) := dk_154 0 6 (dk_at dksX4_nextCue_1 3 rfl rfl)
theorem dX4_nextCue_30 : decode cX4_nextCue 30 = .ok (.goto 25, 3) := dk_167 0 25 (dk_at dksX4_nextCue_1 6 rfl rfl)
theorem dX4_nextCue_33 : decode cX4_nextCue 33 = .ok (.iload_n 2, 1) := dk_28 (dk_at dksX4_nextCue_1 9 rfl rfl)
theorem dX4_nextCue_34 : decode cX4_nextCue 34 = .ok (.iconst (-1), 1) := dk_2 (dk_at dksX4_nextCue_1 10 rfl rfl)
theorem dX4_nextCue_35 : decode cX4_nextCue 35 = .ok (.if_icmp .eq 18, 3) := dk_159 0 18 (dk_at dksX4_nextCue_1 11 rfl rfl)
theorem dX4_nextCue_38 : decode cX4_nextCue 38 = .ok (.aload_n 0, 1) := dk_42 (dk_at dksX4_nextCue_1 14 rfl rfl)
theorem dX4_nextCue_39 : decode cX4_nextCue 39 = .ok (.iload_n 3, 1) := dk_29 (dk_at dksX4_nextCue_1 15 rfl rfl)
theorem dX4_nextCue_40 : decode cX4_nextCue 40 = .ok (.iconst 0, 1) := dk_3 (dk_at dksX4_nextCue_1 16 rfl rfl)
theorem dX4_nextCue_41 : decode cX4_nextCue 41 = .ok (.invokevirtual 77, 3) := dk_182 0 77 (dk_at dksX4_nextCue_1 17 rfl rfl)
theorem dX4_nextCue_44 : decode cX4_nextCue 44 = .ok (.aload_n 0, 1) := dk_42 (dk_at dksX4_nextCue_1 20 rfl rfl)
theorem dX4_nextCue_45 : decode cX4_nextCue 45 = .ok (.iload_n 2, 1) := dk_28 (dk_at dksX4_nextCue_1 21 rfl rfl)
theorem dX4_nextCue_46 : decode cX4_nextCue 46 = .ok (.iconst 0, 1) := dk_3 (dk_at dksX4_nextCue_1 22 rfl rfl)
theorem dX4_nextCue_47 : decode cX4_nextCue 47 = .ok (.invokevirtual 77, 3) := dk_182 0 77 (dk_at dksX4_nextCue_2 0 rfl rfl)
theorem dX4_nextCue_50 : decode cX4_nextCue 50 = .ok (.if_icmp .ge 5, 3) := dk_162 0 5 (dk_at dksX4_nextCue_2 3 rfl rfl)
theorem dX4_nextCue_53 : decode cX4_nextCue 53 = .ok (.iload_n 3, 1) := dk_29 (dk_at dksX4_nextCue_2 6 rfl rfl)
theorem dX4_nextCue_54 : decode cX4_nextCue 54 = .ok (.istore_n 2, 1) := dk_61 (dk_at dksX4_nextCue_2 7 rfl rfl)
theorem dX4_nextCue_55 : decode cX4_nextCue 55 = .ok (.iinc 3 1, 3) := dk_132 3 1 (dk_at dksX4_nextCue_2 8 rfl rfl)
theorem dX4_nextCue_58 : decode cX4_nextCue 58 = .ok (.goto (-54), 3) := dk_167 255 202 (dk_at dksX4_nextCue_2 11 rfl rfl)
theorem dX4_nextCue_61 : decode cX4_nextCue 61 = .ok (.iload_n 2, 1) := dk_28 (dk_at dksX4_nextCue_2 14 rfl rfl)
theorem dX4_nextCue_62 : decode cX4_nextCue 62 = .ok (.ireturn, 1) := dk_172 (dk_at dksX4_nextCue_2 15 rfl rfl)
abbrev cX4_distance : ByteArray := prog_17_method_68_code
def yX4_distance : MethodName := ⟨RX4, "distance", "(II)I"⟩
def dkwX4_distance_0 : List UInt8 := [42, 27, 28, 182, 0, 236, 154, 0, 5, 3, 172, 42, 28, 182, 1, 27, 42, 180, 0, 43, 27, 46, 172]
abbrev dktX4_distance_0 : List UInt8 := dkwX4_distance_0 ++ []
theorem dksX4_distance_0 : cX4_distance.data.toList.drop 0 = dktX4_distance_0 := by decide +kernel
theorem dX4_distance_0 : decode cX4_distance 0 = .ok (.aload_n 0, 1) := dk_42 (dk_at dksX4_distance_0 0 rfl rfl)
theorem dX4_distance_1 : decode cX4_distance 1 = .ok (.iload_n 1, 1) := dk_27 (dk_at dksX4_distance_0 1 rfl rfl)
theorem dX4_distance_2 : decode cX4_distance 2 = .ok (.iload_n 2, 1) := dk_28 (dk_at dksX4_distance_0 2 rfl rfl)
theorem dX4_distance_3 : decode cX4_distance 3 = .ok (.invokevirtual 236, 3) := dk_182 0 236 (dk_at dksX4_distance_0 3 rfl rfl)
theorem dX4_distance_6 : decode cX4_distance 6 = .ok (.ifCond .ne 5, 3) := dk_154 0 5 (dk_at dksX4_distance_0 6 rfl rfl)
theorem dX4_distance_9 : decode cX4_distance 9 = .ok (.iconst 0, 1) := dk_3 (dk_at dksX4_distance_0 9 rfl rfl)
theorem dX4_distance_10 : decode cX4_distance 10 = .ok (.ireturn, 1) := dk_172 (dk_at dksX4_distance_0 10 rfl rfl)
theorem dX4_distance_11 : decode cX4_distance 11 = .ok (.aload_n 0, 1) := dk_42 (dk_at dksX4_distance_0 11 rfl rfl)
theorem dX4_distance_12 : decode cX4_distance 12 = .ok (.iload_n 2, 1) := dk_28 (dk_at dksX4_distance_0 12 rfl rfl)
theorem dX4_distance_13 : decode cX4_distance 13 = .ok (.invokevirtual 283, 3) := dk_182 1 27 (dk_at dksX4_distance_0 13 rfl rfl)
theorem dX4_distance_16 : decode cX4_distance 16 = .ok (.aload_n 0, 1) := dk_42 (dk_at dksX4_distance_0 16 rfl rfl)
theorem dX4_distance_17 : decode cX4_distance 17 = .ok (.getfield 43, 3) := dk_180 0 43 (dk_at dksX4_distance_0 17 rfl rfl)
theorem dX4_distance_20 : decode cX4_distance 20 = .ok (.iload_n 1, 1) := dk_27 (dk_at dksX4_distance_0 20 rfl rfl)
theorem dX4_distance_21 : decode cX4_distance 21 = .ok (.iaload, 1) := dk_46 (dk_at dksX4_distance_0 21 rfl rfl)
theorem dX4_distance_22 : decode cX4_distance 22 = .ok (.ireturn, 1) := dk_172 (dk_at dksX4_distance_0 22 rfl rfl)
abbrev cX4_withStatus : ByteArray := prog_17_method_70_code
def yX4_withStatus : MethodName := ⟨RX4, "withStatus", "(I)I"⟩
def dkwX4_withStatus_0 : List UInt8 := [42, 3, 181, 0, 63, 42, 27, 182, 1, 30, 172]
abbrev dktX4_withStatus_0 : List UInt8 := dkwX4_withStatus_0 ++ []
theorem dksX4_withStatus_0 : cX4_withStatus.data.toList.drop 0 = dktX4_withStatus_0 := by decide +kernel
theorem dX4_withStatus_0 : decode cX4_withStatus 0 = .ok (.aload_n 0, 1) := dk_42 (dk_at dksX4_withStatus_0 0 rfl rfl)
theorem dX4_withStatus_1 : decode cX4_withStatus 1 = .ok (.iconst 0, 1) := dk_3 (dk_at dksX4_withStatus_0 1 rfl rfl)
theorem dX4_withStatus_2 : decode cX4_withStatus 2 = .ok (.putfield 63, 3) := dk_181 0 63 (dk_at dksX4_withStatus_0 2 rfl rfl)
theorem dX4_withStatus_5 : decode cX4_withStatus 5 = .ok (.aload_n 0, 1) := dk_42 (dk_at dksX4_withStatus_0 5 rfl rfl)
theorem dX4_withStatus_6 : decode cX4_withStatus 6 = .ok (.iload_n 1, 1) := dk_27 (dk_at dksX4_withStatus_0 6 rfl rfl)
theorem dX4_withStatus_7 : decode cX4_withStatus 7 = .ok (.invokevirtual 286, 3) := dk_182 1 30 (dk_at dksX4_withStatus_0 7 rfl rfl)
theorem dX4_withStatus_10 : decode cX4_withStatus 10 = .ok (.ireturn, 1) := dk_172 (dk_at dksX4_withStatus_0 10 rfl rfl)
abbrev cX4_manyWith : ByteArray := prog_17_method_69_code
def yX4_manyWith : MethodName := ⟨RX4, "manyWith", "(I)I"⟩
def dkwX4_manyWith_2 : List UInt8 := [160, 0, 6, 132, 2, 1, 132, 4, 1, 167, 255, 220, 132, 3, 1, 167, 255, 198, 28, 172]
abbrev dktX4_manyWith_2 : List UInt8 := dkwX4_manyWith_2 ++ []
def dkwX4_manyWith_1 : List UInt8 := [182, 0, 88, 162, 0, 33, 42, 21, 4, 29, 182, 0, 232, 153, 0, 17, 42, 180, 0, 40, 21, 4, 46, 27]
abbrev dktX4_manyWith_1 : List UInt8 := dkwX4_manyWith_1 ++ dktX4_manyWith_2
def dkwX4_manyWith_0 : List UInt8 := [3, 61, 3, 62, 29, 42, 180, 0, 81, 162, 0, 56, 42, 29, 182, 1, 27, 3, 54, 4, 21, 4, 42]
abbrev dktX4_manyWith_0 : List UInt8 := dkwX4_manyWith_0 ++ dktX4_manyWith_1
theorem dksX4_manyWith_0 : cX4_manyWith.data.toList.drop 0 = dktX4_manyWith_0 := by decide +kernel
theorem dksX4_manyWith_1 : cX4_manyWith.data.toList.drop 23 = dktX4_manyWith_1 := dk_seg dksX4_manyWith_0 23 rfl rfl
theorem dksX4_manyWith_2 : cX4_manyWith.data.toList.drop 47 = dktX4_manyWith_2 := dk_seg dksX4_manyWith_1 24 rfl rfl
theorem dX4_manyWith_0 : decode cX4_manyWith 0 = .ok (.iconst 0, 1) := dk_3 (dk_at dksX4_manyWith_0 0 rfl rfl)
theorem dX4_manyWith_1 : decode cX4_manyWith 1 = .ok (.istore_n 2, 1) := dk_61 (dk_at dksX4_manyWith_0 1 rfl rfl)
theorem dX4_manyWith_2 : decode cX4_manyWith 2 = .ok (.iconst 0, 1) := dk_3 (dk_at dksX4_manyWith_0 2 rfl rfl)
theorem dX4_manyWith_3 : decode cX4_manyWith 3 = .ok (.istore_n 3, 1) := dk_62 (dk_at dksX4_manyWith_0 3 rfl rfl)
theorem dX4_manyWith_4 : decode cX4_manyWith 4 = .ok (.iload_n 3, 1) := dk_29 (dk_at dksX4_manyWith_0 4 rfl rfl)
theorem dX4_manyWith_5 : decode cX4_manyWith 5 = .ok (.aload_n 0, 1) := dk_42 (dk_at dksX4_manyWith_0 5 rfl rfl)
theorem dX4_manyWith_6 : decode cX4_manyWith 6 = .ok (.getfield 81, 3) := dk_180 0 81 (dk_at dksX4_manyWith_0 6 rfl rfl)
theorem dX4_manyWith_9 : decode cX4_manyWith 9 = .ok (.if_icmp .ge 56, 3) := dk_162 0 56 (dk_at dksX4_manyWith_0 9 rfl rfl)
theorem dX4_manyWith_12 : decode cX4_manyWith 12 = .ok (.aload_n 0, 1) := dk_42 (dk_at dksX4_manyWith_0 12 rfl rfl)
theorem dX4_manyWith_13 : decode cX4_manyWith 13 = .ok (.iload_n 3, 1) := dk_29 (dk_at dksX4_manyWith_0 13 rfl rfl)
theorem dX4_manyWith_14 : decode cX4_manyWith 14 = .ok (.invokevirtual 283, 3) := dk_182 1 27 (dk_at dksX4_manyWith_0 14 rfl rfl)
theorem dX4_manyWith_17 : decode cX4_manyWith 17 = .ok (.iconst 0, 1) := dk_3 (dk_at dksX4_manyWith_0 17 rfl rfl)
theorem dX4_manyWith_18 : decode cX4_manyWith 18 = .ok (.istore 4, 2) := dk_54 4 (dk_at dksX4_manyWith_0 18 rfl rfl)
theorem dX4_manyWith_20 : decode cX4_manyWith 20 = .ok (.iload 4, 2) := dk_21 4 (dk_at dksX4_manyWith_0 20 rfl rfl)
theorem dX4_manyWith_22 : decode cX4_manyWith 22 = .ok (.aload_n 0, 1) := dk_42 (dk_at dksX4_manyWith_0 22 rfl rfl)
theorem dX4_manyWith_23 : decode cX4_manyWith 23 = .ok (.invokevirtual 88, 3) := dk_182 0 88 (dk_at dksX4_manyWith_1 0 rfl rfl)
theorem dX4_manyWith_26 : decode cX4_manyWith 26 = .ok (.if_icmp .ge 33, 3) := dk_162 0 33 (dk_at dksX4_manyWith_1 3 rfl rfl)
theorem dX4_manyWith_29 : decode cX4_manyWith 29 = .ok (.aload_n 0, 1) := dk_42 (dk_at dksX4_manyWith_1 6 rfl rfl)
theorem dX4_manyWith_30 : decode cX4_manyWith 30 = .ok (.iload 4, 2) := dk_21 4 (dk_at dksX4_manyWith_1 7 rfl rfl)
theorem dX4_manyWith_32 : decode cX4_manyWith 32 = .ok (.iload_n 3, 1) := dk_29 (dk_at dksX4_manyWith_1 9 rfl rfl)
theorem dX4_manyWith_33 : decode cX4_manyWith 33 = .ok (.invokevirtual 232, 3) := dk_182 0 232 (dk_at dksX4_manyWith_1 10 rfl rfl)
theorem dX4_manyWith_36 : decode cX4_manyWith 36 = .ok (.ifCond .eq 17, 3) := dk_153 0 17 (dk_at dksX4_manyWith_1 13 rfl rfl)
theorem dX4_manyWith_39 : decode cX4_manyWith 39 = .ok (.aload_n 0, 1) := dk_42 (dk_at dksX4_manyWith_1 16 rfl rfl)
theorem dX4_manyWith_40 : decode cX4_manyWith 40 = .ok (.getfield 40, 3) := dk_180 0 40 (dk_at dksX4_manyWith_1 17 rfl rfl)
theorem dX4_manyWith_43 : decode cX4_manyWith 43 = .ok (.iload 4, 2) := dk_21 4 (dk_at dksX4_manyWith_1 20 rfl rfl)
theorem dX4_manyWith_45 : decode cX4_manyWith 45 = .ok (.iaload, 1) := dk_46 (dk_at dksX4_manyWith_1 22 rfl rfl)
theorem dX4_manyWith_46 : decode cX4_manyWith 46 = .ok (.iload_n 1, 1) := dk_27 (dk_at dksX4_manyWith_1 23 rfl rfl)
theorem dX4_manyWith_47 : decode cX4_manyWith 47 = .ok (.if_icmp .ne 6, 3) := dk_160 0 6 (dk_at dksX4_manyWith_2 0 rfl rfl)
theorem dX4_manyWith_50 : decode cX4_manyWith 50 = .ok (.iinc 2 1, 3) := dk_132 2 1 (dk_at dksX4_manyWith_2 3 rfl rfl)
theorem dX4_manyWith_53 : decode cX4_manyWith 53 = .ok (.iinc 4 1, 3) := dk_132 4 1 (dk_at dksX4_manyWith_2 6 rfl rfl)
theorem dX4_manyWith_56 : decode cX4_manyWith 56 = .ok (.goto (-36), 3) := dk_167 255 220 (dk_at dksX4_manyWith_2 9 rfl rfl)
theorem dX4_manyWith_59 : decode cX4_manyWith 59 = .ok (.iinc 3 1, 3) := dk_132 3 1 (dk_at dksX4_manyWith_2 12 rfl rfl)
theorem dX4_manyWith_62 : decode cX4_manyWith 62 = .ok (.goto (-58), 3) := dk_167 255 198 (dk_at dksX4_manyWith_2 15 rfl rfl)
theorem dX4_manyWith_65 : decode cX4_manyWith 65 = .ok (.iload_n 2, 1) := dk_28 (dk_at dksX4_manyWith_2 18 rfl rfl)
theorem dX4_manyWith_66 : decode cX4_manyWith 66 = .ok (.ireturn, 1) := dk_172 (dk_at dksX4_manyWith_2 19 rfl rfl)
abbrev cX4_leastLength : ByteArray := prog_17_method_72_code
def yX4_leastLength : MethodName := ⟨RX4, "leastLength", "(I)I"⟩
def dkwX4_leastLength_1 : List UInt8 := [182, 0, 98, 172]
abbrev dktX4_leastLength_1 : List UInt8 := dkwX4_leastLength_1 ++ []
def dkwX4_leastLength_0 : List UInt8 := [42, 3, 181, 0, 63, 42, 27, 182, 0, 229, 153, 0, 11, 42, 27, 182, 1, 33, 167, 0, 8, 42, 4]
abbrev dktX4_leastLength_0 : List UInt8 := dkwX4_leastLength_0 ++ dktX4_leastLength_1
theorem dksX4_leastLength_0 : cX4_leastLength.data.toList.drop 0 = dktX4_leastLength_0 := by decide +kernel
theorem dksX4_leastLength_1 : cX4_leastLength.data.toList.drop 23 = dktX4_leastLength_1 := dk_seg dksX4_leastLength_0 23 rfl rfl
theorem dX4_leastLength_0 : decode cX4_leastLength 0 = .ok (.aload_n 0, 1) := dk_42 (dk_at dksX4_leastLength_0 0 rfl rfl)
theorem dX4_leastLength_1 : decode cX4_leastLength 1 = .ok (.iconst 0, 1) := dk_3 (dk_at dksX4_leastLength_0 1 rfl rfl)
theorem dX4_leastLength_2 : decode cX4_leastLength 2 = .ok (.putfield 63, 3) := dk_181 0 63 (dk_at dksX4_leastLength_0 2 rfl rfl)
theorem dX4_leastLength_5 : decode cX4_leastLength 5 = .ok (.aload_n 0, 1) := dk_42 (dk_at dksX4_leastLength_0 5 rfl rfl)
theorem dX4_leastLength_6 : decode cX4_leastLength 6 = .ok (.iload_n 1, 1) := dk_27 (dk_at dksX4_leastLength_0 6 rfl rfl)
theorem dX4_leastLength_7 : decode cX4_leastLength 7 = .ok (.invokevirtual 229, 3) := dk_182 0 229 (dk_at dksX4_leastLength_0 7 rfl rfl)
theorem dX4_leastLength_10 : decode cX4_leastLength 10 = .ok (.ifCond .eq 11, 3) := dk_153 0 11 (dk_at dksX4_leastLength_0 10 rfl rfl)
theorem dX4_leastLength_13 : decode cX4_leastLength 13 = .ok (.aload_n 0, 1) := dk_42 (dk_at dksX4_leastLength_0 13 rfl rfl)
theorem dX4_leastLength_14 : decode cX4_leastLength 14 = .ok (.iload_n 1, 1) := dk_27 (dk_at dksX4_leastLength_0 14 rfl rfl)
theorem dX4_leastLength_15 : decode cX4_leastLength 15 = .ok (.invokevirtual 289, 3) := dk_182 1 33 (dk_at dksX4_leastLength_0 15 rfl rfl)
theorem dX4_leastLength_18 : decode cX4_leastLength 18 = .ok (.goto 8, 3) := dk_167 0 8 (dk_at dksX4_leastLength_0 18 rfl rfl)
theorem dX4_leastLength_21 : decode cX4_leastLength 21 = .ok (.aload_n 0, 1) := dk_42 (dk_at dksX4_leastLength_0 21 rfl rfl)
theorem dX4_leastLength_22 : decode cX4_leastLength 22 = .ok (.iconst 1, 1) := dk_4 (dk_at dksX4_leastLength_0 22 rfl rfl)
theorem dX4_leastLength_23 : decode cX4_leastLength 23 = .ok (.invokevirtual 98, 3) := dk_182 0 98 (dk_at dksX4_leastLength_1 0 rfl rfl)
theorem dX4_leastLength_26 : decode cX4_leastLength 26 = .ok (.ireturn, 1) := dk_172 (dk_at dksX4_leastLength_1 3 rfl rfl)
abbrev cX4_lengthNeeded : ByteArray := prog_17_method_71_code
def yX4_lengthNeeded : MethodName := ⟨RX4, "lengthNeeded", "(I)I"⟩
def dkwX4_lengthNeeded_2 : List UInt8 := [21, 4, 167, 0, 4, 28, 61, 132, 3, 1, 167, 255, 202, 28, 172]
abbrev dktX4_lengthNeeded_2 : List UInt8 := dkwX4_lengthNeeded_2 ++ []
def dkwX4_lengthNeeded_1 : List UInt8 := [42, 29, 182, 1, 27, 42, 29, 42, 180, 0, 43, 27, 46, 182, 1, 14, 54, 4, 21, 4, 28, 164, 0, 8]
abbrev dktX4_lengthNeeded_1 : List UInt8 := dkwX4_lengthNeeded_1 ++ dktX4_lengthNeeded_2
def dkwX4_lengthNeeded_0 : List UInt8 := [4, 61, 3, 62, 29, 42, 180, 0, 81, 162, 0, 52, 42, 27, 29, 182, 0, 232, 154, 0, 6, 167, 0, 34]
abbrev dktX4_lengthNeeded_0 : List UInt8 := dkwX4_lengthNeeded_0 ++ dktX4_lengthNeeded_1
theorem dksX4_lengthNeeded_0 : cX4_lengthNeeded.data.toList.drop 0 = dktX4_lengthNeeded_0 := by decide +kernel
theorem dksX4_lengthNeeded_1 : cX4_lengthNeeded.data.toList.drop 24 = dktX4_lengthNeeded_1 := dk_seg dksX4_lengthNeeded_0 24 rfl rfl
theorem dksX4_lengthNeeded_2 : cX4_lengthNeeded.data.toList.drop 48 = dktX4_lengthNeeded_2 := dk_seg dksX4_lengthNeeded_1 24 rfl rfl
theorem dX4_lengthNeeded_0 : decode cX4_lengthNeeded 0 = .ok (.iconst 1, 1) := dk_4 (dk_at dksX4_lengthNeeded_0 0 rfl rfl)
theorem dX4_lengthNeeded_1 : decode cX4_lengthNeeded 1 = .ok (.istore_n 2, 1) := dk_61 (dk_at dksX4_lengthNeeded_0 1 rfl rfl)
theorem dX4_lengthNeeded_2 : decode cX4_lengthNeeded 2 = .ok (.iconst 0, 1) := dk_3 (dk_at dksX4_lengthNeeded_0 2 rfl rfl)
theorem dX4_lengthNeeded_3 : decode cX4_lengthNeeded 3 = .ok (.istore_n 3, 1) := dk_62 (dk_at dksX4_lengthNeeded_0 3 rfl rfl)
theorem dX4_lengthNeeded_4 : decode cX4_lengthNeeded 4 = .ok (.iload_n 3, 1) := dk_29 (dk_at dksX4_lengthNeeded_0 4 rfl rfl)
theorem dX4_lengthNeeded_5 : decode cX4_lengthNeeded 5 = .ok (.aload_n 0, 1) := dk_42 (dk_at dksX4_lengthNeeded_0 5 rfl rfl)
theorem dX4_lengthNeeded_6 : decode cX4_lengthNeeded 6 = .ok (.getfield 81, 3) := dk_180 0 81 (dk_at dksX4_lengthNeeded_0 6 rfl rfl)
theorem dX4_lengthNeeded_9 : decode cX4_lengthNeeded 9 = .ok (.if_icmp .ge 52, 3) := dk_162 0 52 (dk_at dksX4_lengthNeeded_0 9 rfl rfl)
theorem dX4_lengthNeeded_12 : decode cX4_lengthNeeded 12 = .ok (.aload_n 0, 1) := dk_42 (dk_at dksX4_lengthNeeded_0 12 rfl rfl)
theorem dX4_lengthNeeded_13 : decode cX4_lengthNeeded 13 = .ok (.iload_n 1, 1) := dk_27 (dk_at dksX4_lengthNeeded_0 13 rfl rfl)
theorem dX4_lengthNeeded_14 : decode cX4_lengthNeeded 14 = .ok (.iload_n 3, 1) := dk_29 (dk_at dksX4_lengthNeeded_0 14 rfl rfl)
theorem dX4_lengthNeeded_15 : decode cX4_lengthNeeded 15 = .ok (.invokevirtual 232, 3) := dk_182 0 232 (dk_at dksX4_lengthNeeded_0 15 rfl rfl)
theorem dX4_lengthNeeded_18 : decode cX4_lengthNeeded 18 = .ok (.ifCond .ne 6, 3) := dk_154 0 6 (dk_at dksX4_lengthNeeded_0 18 rfl rfl)
theorem dX4_lengthNeeded_21 : decode cX4_lengthNeeded 21 = .ok (.goto 34, 3) := dk_167 0 34 (dk_at dksX4_lengthNeeded_0 21 rfl rfl)
theorem dX4_lengthNeeded_24 : decode cX4_lengthNeeded 24 = .ok (.aload_n 0, 1) := dk_42 (dk_at dksX4_lengthNeeded_1 0 rfl rfl)
theorem dX4_lengthNeeded_25 : decode cX4_lengthNeeded 25 = .ok (.iload_n 3, 1) := dk_29 (dk_at dksX4_lengthNeeded_1 1 rfl rfl)
theorem dX4_lengthNeeded_26 : decode cX4_lengthNeeded 26 = .ok (.invokevirtual 283, 3) := dk_182 1 27 (dk_at dksX4_lengthNeeded_1 2 rfl rfl)
theorem dX4_lengthNeeded_29 : decode cX4_lengthNeeded 29 = .ok (.aload_n 0, 1) := dk_42 (dk_at dksX4_lengthNeeded_1 5 rfl rfl)
theorem dX4_lengthNeeded_30 : decode cX4_lengthNeeded 30 = .ok (.iload_n 3, 1) := dk_29 (dk_at dksX4_lengthNeeded_1 6 rfl rfl)
theorem dX4_lengthNeeded_31 : decode cX4_lengthNeeded 31 = .ok (.aload_n 0, 1) := dk_42 (dk_at dksX4_lengthNeeded_1 7 rfl rfl)
theorem dX4_lengthNeeded_32 : decode cX4_lengthNeeded 32 = .ok (.getfield 43, 3) := dk_180 0 43 (dk_at dksX4_lengthNeeded_1 8 rfl rfl)
theorem dX4_lengthNeeded_35 : decode cX4_lengthNeeded 35 = .ok (.iload_n 1, 1) := dk_27 (dk_at dksX4_lengthNeeded_1 11 rfl rfl)
theorem dX4_lengthNeeded_36 : decode cX4_lengthNeeded 36 = .ok (.iaload, 1) := dk_46 (dk_at dksX4_lengthNeeded_1 12 rfl rfl)
theorem dX4_lengthNeeded_37 : decode cX4_lengthNeeded 37 = .ok (.invokevirtual 270, 3) := dk_182 1 14 (dk_at dksX4_lengthNeeded_1 13 rfl rfl)
theorem dX4_lengthNeeded_40 : decode cX4_lengthNeeded 40 = .ok (.istore 4, 2) := dk_54 4 (dk_at dksX4_lengthNeeded_1 16 rfl rfl)
theorem dX4_lengthNeeded_42 : decode cX4_lengthNeeded 42 = .ok (.iload 4, 2) := dk_21 4 (dk_at dksX4_lengthNeeded_1 18 rfl rfl)
theorem dX4_lengthNeeded_44 : decode cX4_lengthNeeded 44 = .ok (.iload_n 2, 1) := dk_28 (dk_at dksX4_lengthNeeded_1 20 rfl rfl)
theorem dX4_lengthNeeded_45 : decode cX4_lengthNeeded 45 = .ok (.if_icmp .le 8, 3) := dk_164 0 8 (dk_at dksX4_lengthNeeded_1 21 rfl rfl)
theorem dX4_lengthNeeded_48 : decode cX4_lengthNeeded 48 = .ok (.iload 4, 2) := dk_21 4 (dk_at dksX4_lengthNeeded_2 0 rfl rfl)
theorem dX4_lengthNeeded_50 : decode cX4_lengthNeeded 50 = .ok (.goto 4, 3) := dk_167 0 4 (dk_at dksX4_lengthNeeded_2 2 rfl rfl)
theorem dX4_lengthNeeded_53 : decode cX4_lengthNeeded 53 = .ok (.iload_n 2, 1) := dk_28 (dk_at dksX4_lengthNeeded_2 5 rfl rfl)
theorem dX4_lengthNeeded_54 : decode cX4_lengthNeeded 54 = .ok (.istore_n 2, 1) := dk_61 (dk_at dksX4_lengthNeeded_2 6 rfl rfl)
theorem dX4_lengthNeeded_55 : decode cX4_lengthNeeded 55 = .ok (.iinc 3 1, 3) := dk_132 3 1 (dk_at dksX4_lengthNeeded_2 7 rfl rfl)
theorem dX4_lengthNeeded_58 : decode cX4_lengthNeeded 58 = .ok (.goto (-54), 3) := dk_167 255 202 (dk_at dksX4_lengthNeeded_2 10 rfl rfl)
theorem dX4_lengthNeeded_61 : decode cX4_lengthNeeded 61 = .ok (.iload_n 2, 1) := dk_28 (dk_at dksX4_lengthNeeded_2 13 rfl rfl)
theorem dX4_lengthNeeded_62 : decode cX4_lengthNeeded 62 = .ok (.ireturn, 1) := dk_172 (dk_at dksX4_lengthNeeded_2 14 rfl rfl)
abbrev cX4_position : ByteArray := prog_17_method_79_code
def yX4_position : MethodName := ⟨RX4, "position", "(II)I"⟩
def dkwX4_position_0 : List UInt8 := [42, 27, 28, 182, 1, 48, 153, 0, 12, 42, 27, 28, 182, 1, 42, 167, 0, 4, 3, 172]
abbrev dktX4_position_0 : List UInt8 := dkwX4_position_0 ++ []
theorem dksX4_position_0 : cX4_position.data.toList.drop 0 = dktX4_position_0 := by decide +kernel
theorem dX4_position_0 : decode cX4_position 0 = .ok (.aload_n 0, 1) := dk_42 (dk_at dksX4_position_0 0 rfl rfl)
theorem dX4_position_1 : decode cX4_position 1 = .ok (.iload_n 1, 1) := dk_27 (dk_at dksX4_position_0 1 rfl rfl)
theorem dX4_position_2 : decode cX4_position 2 = .ok (.iload_n 2, 1) := dk_28 (dk_at dksX4_position_0 2 rfl rfl)
theorem dX4_position_3 : decode cX4_position 3 = .ok (.invokevirtual 304, 3) := dk_182 1 48 (dk_at dksX4_position_0 3 rfl rfl)
theorem dX4_position_6 : decode cX4_position 6 = .ok (.ifCond .eq 12, 3) := dk_153 0 12 (dk_at dksX4_position_0 6 rfl rfl)
theorem dX4_position_9 : decode cX4_position 9 = .ok (.aload_n 0, 1) := dk_42 (dk_at dksX4_position_0 9 rfl rfl)
theorem dX4_position_10 : decode cX4_position 10 = .ok (.iload_n 1, 1) := dk_27 (dk_at dksX4_position_0 10 rfl rfl)
theorem dX4_position_11 : decode cX4_position 11 = .ok (.iload_n 2, 1) := dk_28 (dk_at dksX4_position_0 11 rfl rfl)
theorem dX4_position_12 : decode cX4_position 12 = .ok (.invokevirtual 298, 3) := dk_182 1 42 (dk_at dksX4_position_0 12 rfl rfl)
theorem dX4_position_15 : decode cX4_position 15 = .ok (.goto 4, 3) := dk_167 0 4 (dk_at dksX4_position_0 15 rfl rfl)
theorem dX4_position_18 : decode cX4_position 18 = .ok (.iconst 0, 1) := dk_3 (dk_at dksX4_position_0 18 rfl rfl)
theorem dX4_position_19 : decode cX4_position 19 = .ok (.ireturn, 1) := dk_172 (dk_at dksX4_position_0 19 rfl rfl)
abbrev cX4_isLaid : ByteArray := prog_17_method_78_code
def yX4_isLaid : MethodName := ⟨RX4, "isLaid", "(II)Z"⟩
def dkwX4_isLaid_2 : List UInt8 := [172]
abbrev dktX4_isLaid_2 : List UInt8 := dkwX4_isLaid_2 ++ []
def dkwX4_isLaid_1 : List UInt8 := [42, 180, 0, 63, 154, 0, 8, 42, 27, 182, 1, 39, 42, 180, 0, 63, 154, 0, 7, 4, 167, 0, 4, 3]
abbrev dktX4_isLaid_1 : List UInt8 := dkwX4_isLaid_1 ++ dktX4_isLaid_2
def dkwX4_isLaid_0 : List UInt8 := [42, 42, 27, 182, 0, 220, 153, 0, 14, 28, 184, 1, 45, 153, 0, 7, 3, 167, 0, 4, 4, 181, 0, 63]
abbrev dktX4_isLaid_0 : List UInt8 := dkwX4_isLaid_0 ++ dktX4_isLaid_1
theorem dksX4_isLaid_0 : cX4_isLaid.data.toList.drop 0 = dktX4_isLaid_0 := by decide +kernel
theorem dksX4_isLaid_1 : cX4_isLaid.data.toList.drop 24 = dktX4_isLaid_1 := dk_seg dksX4_isLaid_0 24 rfl rfl
theorem dksX4_isLaid_2 : cX4_isLaid.data.toList.drop 48 = dktX4_isLaid_2 := dk_seg dksX4_isLaid_1 24 rfl rfl
theorem dX4_isLaid_0 : decode cX4_isLaid 0 = .ok (.aload_n 0, 1) := dk_42 (dk_at dksX4_isLaid_0 0 rfl rfl)
theorem dX4_isLaid_1 : decode cX4_isLaid 1 = .ok (.aload_n 0, 1) := dk_42 (dk_at dksX4_isLaid_0 1 rfl rfl)
theorem dX4_isLaid_2 : decode cX4_isLaid 2 = .ok (.iload_n 1, 1) := dk_27 (dk_at dksX4_isLaid_0 2 rfl rfl)
theorem dX4_isLaid_3 : decode cX4_isLaid 3 = .ok (.invokevirtual 220, 3) := dk_182 0 220 (dk_at dksX4_isLaid_0 3 rfl rfl)
theorem dX4_isLaid_6 : decode cX4_isLaid 6 = .ok (.ifCond .eq 14, 3) := dk_153 0 14 (dk_at dksX4_isLaid_0 6 rfl rfl)
theorem dX4_isLaid_9 : decode cX4_isLaid 9 = .ok (.iload_n 2, 1) := dk_28 (dk_at dksX4_isLaid_0 9 rfl rfl)
theorem dX4_isLaid_10 : decode cX4_isLaid 10 = .ok (.invokestatic 301, 3) := dk_184 1 45 (dk_at dksX4_isLaid_0 10 rfl rfl)
theorem dX4_isLaid_13 : decode cX4_isLaid 13 = .ok (.ifCond .eq 7, 3) := dk_153 0 7 (dk_at dksX4_isLaid_0 13 rfl rfl)
theorem dX4_isLaid_16 : decode cX4_isLaid 16 = .ok (.iconst 0, 1) := dk_3 (dk_at dksX4_isLaid_0 16 rfl rfl)
theorem dX4_isLaid_17 : decode cX4_isLaid 17 = .ok (.goto 4, 3) := dk_167 0 4 (dk_at dksX4_isLaid_0 17 rfl rfl)
theorem dX4_isLaid_20 : decode cX4_isLaid 20 = .ok (.iconst 1, 1) := dk_4 (dk_at dksX4_isLaid_0 20 rfl rfl)
theorem dX4_isLaid_21 : decode cX4_isLaid 21 = .ok (.putfield 63, 3) := dk_181 0 63 (dk_at dksX4_isLaid_0 21 rfl rfl)
theorem dX4_isLaid_24 : decode cX4_isLaid 24 = .ok (.aload_n 0, 1) := dk_42 (dk_at dksX4_isLaid_1 0 rfl rfl)
theorem dX4_isLaid_25 : decode cX4_isLaid 25 = .ok (.getfield 63, 3) := dk_180 0 63 (dk_at dksX4_isLaid_1 1 rfl rfl)
theorem dX4_isLaid_28 : decode cX4_isLaid 28 = .ok (.ifCond .ne 8, 3) := dk_154 0 8 (dk_at dksX4_isLaid_1 4 rfl rfl)
theorem dX4_isLaid_31 : decode cX4_isLaid 31 = .ok (.aload_n 0, 1) := dk_42 (dk_at dksX4_isLaid_1 7 rfl rfl)
theorem dX4_isLaid_32 : decode cX4_isLaid 32 = .ok (.iload_n 1, 1) := dk_27 (dk_at dksX4_isLaid_1 8 rfl rfl)
theorem dX4_isLaid_33 : decode cX4_isLaid 33 = .ok (.invokevirtual 295, 3) := dk_182 1 39 (dk_at dksX4_isLaid_1 9 rfl rfl)
theorem dX4_isLaid_36 : decode cX4_isLaid 36 = .ok (.aload_n 0, 1) := dk_42 (dk_at dksX4_isLaid_1 12 rfl rfl)
theorem dX4_isLaid_37 : decode cX4_isLaid 37 = .ok (.getfield 63, 3) := dk_180 0 63 (dk_at dksX4_isLaid_1 13 rfl rfl)
theorem dX4_isLaid_40 : decode cX4_isLaid 40 = .ok (.ifCond .ne 7, 3) := dk_154 0 7 (dk_at dksX4_isLaid_1 16 rfl rfl)
theorem dX4_isLaid_43 : decode cX4_isLaid 43 = .ok (.iconst 1, 1) := dk_4 (dk_at dksX4_isLaid_1 19 rfl rfl)
theorem dX4_isLaid_44 : decode cX4_isLaid 44 = .ok (.goto 4, 3) := dk_167 0 4 (dk_at dksX4_isLaid_1 20 rfl rfl)
theorem dX4_isLaid_47 : decode cX4_isLaid 47 = .ok (.iconst 0, 1) := dk_3 (dk_at dksX4_isLaid_1 23 rfl rfl)
theorem dX4_isLaid_48 : decode cX4_isLaid 48 = .ok (.ireturn, 1) := dk_172 (dk_at dksX4_isLaid_2 0 rfl rfl)
abbrev cX4_isFrame : ByteArray := prog_17_method_16_code
def yX4_isFrame : MethodName := ⟨RX4, "isFrame", "(I)Z"⟩
def dkwX4_isFrame_0 : List UInt8 := [26, 3, 17, 3, 231, 184, 0, 84, 172]
abbrev dktX4_isFrame_0 : List UInt8 := dkwX4_isFrame_0 ++ []
theorem dksX4_isFrame_0 : cX4_isFrame.data.toList.drop 0 = dktX4_isFrame_0 := by decide +kernel
theorem dX4_isFrame_0 : decode cX4_isFrame 0 = .ok (.iload_n 0, 1) := dk_26 (dk_at dksX4_isFrame_0 0 rfl rfl)
theorem dX4_isFrame_1 : decode cX4_isFrame 1 = .ok (.iconst 0, 1) := dk_3 (dk_at dksX4_isFrame_0 1 rfl rfl)
theorem dX4_isFrame_2 : decode cX4_isFrame 2 = .ok (.sipush 999, 3) := dk_17 3 231 (dk_at dksX4_isFrame_0 2 rfl rfl)
theorem dX4_isFrame_5 : decode cX4_isFrame 5 = .ok (.invokestatic 84, 3) := dk_184 0 84 (dk_at dksX4_isFrame_0 5 rfl rfl)
theorem dX4_isFrame_8 : decode cX4_isFrame 8 = .ok (.ireturn, 1) := dk_172 (dk_at dksX4_isFrame_0 8 rfl rfl)
abbrev cX4_lays : ByteArray := prog_17_method_73_code
def yX4_lays : MethodName := ⟨RX4, "lays", "(I)V"⟩
def dkwX4_lays_5 : List UInt8 := [46, 96, 79, 132, 3, 1, 167, 255, 225, 177]
abbrev dktX4_lays_5 : List UInt8 := dkwX4_lays_5 ++ []
def dkwX4_lays_4 : List UInt8 := [17, 3, 232, 162, 0, 30, 42, 180, 0, 50, 28, 29, 96, 92, 46, 42, 180, 0, 50, 28, 29, 96, 4, 100]
abbrev dktX4_lays_4 : List UInt8 := dkwX4_lays_4 ++ dktX4_lays_5
def dkwX4_lays_3 : List UInt8 := [180, 0, 40, 29, 46, 154, 0, 10, 42, 27, 29, 28, 182, 1, 36, 132, 3, 1, 167, 255, 220, 4, 62, 29]
abbrev dktX4_lays_3 : List UInt8 := dkwX4_lays_3 ++ dktX4_lays_4
def dkwX4_lays_2 : List UInt8 := [96, 46, 79, 3, 62, 29, 42, 182, 0, 88, 162, 0, 34, 42, 29, 27, 182, 0, 232, 153, 0, 19, 42]
abbrev dktX4_lays_2 : List UInt8 := dkwX4_lays_2 ++ dktX4_lays_3
def dkwX4_lays_1 : List UInt8 := [28, 29, 96, 3, 79, 132, 3, 1, 167, 255, 237, 42, 180, 0, 50, 28, 42, 180, 0, 17, 6, 27, 104, 5]
abbrev dktX4_lays_1 : List UInt8 := dkwX4_lays_1 ++ dktX4_lays_2
def dkwX4_lays_0 : List UInt8 := [42, 27, 182, 1, 27, 17, 3, 232, 27, 104, 61, 3, 62, 29, 17, 3, 232, 162, 0, 18, 42, 180, 0, 50]
abbrev dktX4_lays_0 : List UInt8 := dkwX4_lays_0 ++ dktX4_lays_1
theorem dksX4_lays_0 : cX4_lays.data.toList.drop 0 = dktX4_lays_0 := by decide +kernel
theorem dksX4_lays_1 : cX4_lays.data.toList.drop 24 = dktX4_lays_1 := dk_seg dksX4_lays_0 24 rfl rfl
theorem dksX4_lays_2 : cX4_lays.data.toList.drop 48 = dktX4_lays_2 := dk_seg dksX4_lays_1 24 rfl rfl
theorem dksX4_lays_3 : cX4_lays.data.toList.drop 71 = dktX4_lays_3 := dk_seg dksX4_lays_2 23 rfl rfl
theorem dksX4_lays_4 : cX4_lays.data.toList.drop 95 = dktX4_lays_4 := dk_seg dksX4_lays_3 24 rfl rfl
theorem dksX4_lays_5 : cX4_lays.data.toList.drop 119 = dktX4_lays_5 := dk_seg dksX4_lays_4 24 rfl rfl
theorem dX4_lays_0 : decode cX4_lays 0 = .ok (.aload_n 0, 1) := dk_42 (dk_at dksX4_lays_0 0 rfl rfl)
theorem dX4_lays_1 : decode cX4_lays 1 = .ok (.iload_n 1, 1) := dk_27 (dk_at dksX4_lays_0 1 rfl rfl)
theorem dX4_lays_2 : decode cX4_lays 2 = .ok (.invokevirtual 283, 3) := dk_182 1 27 (dk_at dksX4_lays_0 2 rfl rfl)
theorem dX4_lays_5 : decode cX4_lays 5 = .ok (.sipush 1000, 3) := dk_17 3 232 (dk_at dksX4_lays_0 5 rfl rfl)
theorem dX4_lays_8 : decode cX4_lays 8 = .ok (.iload_n 1, 1) := dk_27 (dk_at dksX4_lays_0 8 rfl rfl)
theorem dX4_lays_9 : decode cX4_lays 9 = .ok (.imul, 1) := dk_104 (dk_at dksX4_lays_0 9 rfl rfl)
theorem dX4_lays_10 : decode cX4_lays 10 = .ok (.istore_n 2, 1) := dk_61 (dk_at dksX4_lays_0 10 rfl rfl)
theorem dX4_lays_11 : decode cX4_lays 11 = .ok (.iconst 0, 1) := dk_3 (dk_at dksX4_lays_0 11 rfl rfl)
theorem dX4_lays_12 : decode cX4_lays 12 = .ok (.istore_n 3, 1) := dk_62 (dk_at dksX4_lays_0 12 rfl rfl)
theorem dX4_lays_13 : decode cX4_lays 13 = .ok (.iload_n 3, 1) := dk_29 (dk_at dksX4_lays_0 13 rfl rfl)
theorem dX4_lays_14 : decode cX4_lays 14 = .ok (.sipush 1000, 3) := dk_17 3 232 (dk_at dksX4_lays_0 14 rfl rfl)
theorem dX4_lays_17 : decode cX4_lays 17 = .ok (.if_icmp .ge 18, 3) := dk_162 0 18 (dk_at dksX4_lays_0 17 rfl rfl)
theorem dX4_lays_20 : decode cX4_lays 20 = .ok (.aload_n 0, 1) := dk_42 (dk_at dksX4_lays_0 20 rfl rfl)
theorem dX4_lays_21 : decode cX4_lays 21 = .ok (.getfield 50, 3) := dk_180 0 50 (dk_at dksX4_lays_0 21 rfl rfl)
theorem dX4_lays_24 : decode cX4_lays 24 = .ok (.iload_n 2, 1) := dk_28 (dk_at dksX4_lays_1 0 rfl rfl)
theorem dX4_lays_25 : decode cX4_lays 25 = .ok (.iload_n 3, 1) := dk_29 (dk_at dksX4_lays_1 1 rfl rfl)
theorem dX4_lays_26 : decode cX4_lays 26 = .ok (.iadd, 1) := dk_96 (dk_at dksX4_lays_1 2 rfl rfl)
theorem dX4_lays_27 : decode cX4_lays 27 = .ok (.iconst 0, 1) := dk_3 (dk_at dksX4_lays_1 3 rfl rfl)
theorem dX4_lays_28 : decode cX4_lays 28 = .ok (.iastore, 1) := dk_79 (dk_at dksX4_lays_1 4 rfl rfl)
theorem dX4_lays_29 : decode cX4_lays 29 = .ok (.iinc 3 1, 3) := dk_132 3 1 (dk_at dksX4_lays_1 5 rfl rfl)
theorem dX4_lays_32 : decode cX4_lays 32 = .ok (.goto (-19), 3) := dk_167 255 237 (dk_at dksX4_lays_1 8 rfl rfl)
theorem dX4_lays_35 : decode cX4_lays 35 = .ok (.aload_n 0, 1) := dk_42 (dk_at dksX4_lays_1 11 rfl rfl)
theorem dX4_lays_36 : decode cX4_lays 36 = .ok (.getfield 50, 3) := dk_180 0 50 (dk_at dksX4_lays_1 12 rfl rfl)
theorem dX4_lays_39 : decode cX4_lays 39 = .ok (.iload_n 2, 1) := dk_28 (dk_at dksX4_lays_1 15 rfl rfl)
theorem dX4_lays_40 : decode cX4_lays 40 = .ok (.aload_n 0, 1) := dk_42 (dk_at dksX4_lays_1 16 rfl rfl)
theorem dX4_lays_41 : decode cX4_lays 41 = .ok (.getfield 17, 3) := dk_180 0 17 (dk_at dksX4_lays_1 17 rfl rfl)
theorem dX4_lays_44 : decode cX4_lays 44 = .ok (.iconst 3, 1) := dk_6 (dk_at dksX4_lays_1 20 rfl rfl)
theorem dX4_lays_45 : decode cX4_lays 45 = .ok (.iload_n 1, 1) := dk_27 (dk_at dksX4_lays_1 21 rfl rfl)
theorem dX4_lays_46 : decode cX4_lays 46 = .ok (.imul, 1) := dk_104 (dk_at dksX4_lays_1 22 rfl rfl)
theorem dX4_lays_47 : decode cX4_lays 47 = .ok (.iconst 2, 1) := dk_5 (dk_at dksX4_lays_1 23 rfl rfl)
theorem dX4_lays_48 : decode cX4_lays 48 = .ok (.iadd, 1) := dk_96 (dk_at dksX4_lays_2 0 rfl rfl)
theorem dX4_lays_49 : decode cX4_lays 49 = .ok (.iaload, 1) := dk_46 (dk_at dksX4_lays_2 1 rfl rfl)
theorem dX4_lays_50 : decode cX4_lays 50 = .ok (.iastore, 1) := dk_79 (dk_at dksX4_lays_2 2 rfl rfl)
theorem dX4_lays_51 : decode cX4_lays 51 = .ok (.iconst 0, 1) := dk_3 (dk_at dksX4_lays_2 3 rfl rfl)
theorem dX4_lays_52 : decode cX4_lays 52 = .ok (.istore_n 3, 1) := dk_62 (dk_at dksX4_lays_2 4 rfl rfl)
theorem dX4_lays_53 : decode cX4_lays 53 = .ok (.iload_n 3, 1) := dk_29 (dk_at dksX4_lays_2 5 rfl rfl)
theorem dX4_lays_54 : decode cX4_lays 54 = .ok (.aload_n 0, 1) := dk_42 (dk_at dksX4_lays_2 6 rfl rfl)
theorem dX4_lays_55 : decode cX4_lays 55 = .ok (.invokevirtual 88, 3) := dk_182 0 88 (dk_at dksX4_lays_2 7 rfl rfl)
theorem dX4_lays_58 : decode cX4_lays 58 = .ok (.if_icmp .ge 34, 3) := dk_162 0 34 (dk_at dksX4_lays_2 10 rfl rfl)
theorem dX4_lays_61 : decode cX4_lays 61 = .ok (.aload_n 0, 1) := dk_42 (dk_at dksX4_lays_2 13 rfl rfl)
theorem dX4_lays_62 : decode cX4_lays 62 = .ok (.iload_n 3, 1) := dk_29 (dk_at dksX4_lays_2 14 rfl rfl)
theorem dX4_lays_63 : decode cX4_lays 63 = .ok (.iload_n 1, 1) := dk_27 (dk_at dksX4_lays_2 15 rfl rfl)
theorem dX4_lays_64 : decode cX4_lays 64 = .ok (.invokevirtual 232, 3) := dk_182 0 232 (dk_at dksX4_lays_2 16 rfl rfl)
theorem dX4_lays_67 : decode cX4_lays 67 = .ok (.ifCond .eq 19, 3) := dk_153 0 19 (dk_at dksX4_lays_2 19 rfl rfl)
theorem dX4_lays_70 : decode cX4_lays 70 = .ok (.aload_n 0, 1) := dk_42 (dk_at dksX4_lays_2 22 rfl rfl)
theorem dX4_lays_71 : decode cX4_lays 71 = .ok (.getfield 40, 3) := dk_180 0 40 (dk_at dksX4_lays_3 0 rfl rfl)
theorem dX4_lays_74 : decode cX4_lays 74 = .ok (.iload_n 3, 1) := dk_29 (dk_at dksX4_lays_3 3 rfl rfl)
theorem dX4_lays_75 : decode cX4_lays 75 = .ok (.iaload, 1) := dk_46 (dk_at dksX4_lays_3 4 rfl rfl)
theorem dX4_lays_76 : decode cX4_lays 76 = .ok (.ifCond .ne 10, 3) := dk_154 0 10 (dk_at dksX4_lays_3 5 rfl rfl)
theorem dX4_lays_79 : decode cX4_lays 79 = .ok (.aload_n 0, 1) := dk_42 (dk_at dksX4_lays_3 8 rfl rfl)
theorem dX4_lays_80 : decode cX4_lays 80 = .ok (.iload_n 1, 1) := dk_27 (dk_at dksX4_lays_3 9 rfl rfl)
theorem dX4_lays_81 : decode cX4_lays 81 = .ok (.iload_n 3, 1) := dk_29 (dk_at dksX4_lays_3 10 rfl rfl)
theorem dX4_lays_82 : decode cX4_lays 82 = .ok (.iload_n 2, 1) := dk_28 (dk_at dksX4_lays_3 11 rfl rfl)
theorem dX4_lays_83 : decode cX4_lays 83 = .ok (.invokevirtual 292, 3) := dk_182 1 36 (dk_at dksX4_lays_3 12 rfl rfl)
theorem dX4_lays_86 : decode cX4_lays 86 = .ok (.iinc 3 1, 3) := dk_132 3 1 (dk_at dksX4_lays_3 15 rfl rfl)
theorem dX4_lays_89 : decode cX4_lays 89 = .ok (.goto (-36), 3) := dk_167 255 220 (dk_at dksX4_lays_3 18 rfl rfl)
theorem dX4_lays_92 : decode cX4_lays 92 = .ok (.iconst 1, 1) := dk_4 (dk_at dksX4_lays_3 21 rfl rfl)
theorem dX4_lays_93 : decode cX4_lays 93 = .ok (.istore_n 3, 1) := dk_62 (dk_at dksX4_lays_3 22 rfl rfl)
theorem dX4_lays_94 : decode cX4_lays 94 = .ok (.iload_n 3, 1) := dk_29 (dk_at dksX4_lays_3 23 rfl rfl)
theorem dX4_lays_95 : decode cX4_lays 95 = .ok (.sipush 1000, 3) := dk_17 3 232 (dk_at dksX4_lays_4 0 rfl rfl)
theorem dX4_lays_98 : decode cX4_lays 98 = .ok (.if_icmp .ge 30, 3) := dk_162 0 30 (dk_at dksX4_lays_4 3 rfl rfl)
theorem dX4_lays_101 : decode cX4_lays 101 = .ok (.aload_n 0, 1) := dk_42 (dk_at dksX4_lays_4 6 rfl rfl)
theorem dX4_lays_102 : decode cX4_lays 102 = .ok (.getfield 50, 3) := dk_180 0 50 (dk_at dksX4_lays_4 7 rfl rfl)
theorem dX4_lays_105 : decode cX4_lays 105 = .ok (.iload_n 2, 1) := dk_28 (dk_at dksX4_lays_4 10 rfl rfl)
theorem dX4_lays_106 : decode cX4_lays 106 = .ok (.iload_n 3, 1) := dk_29 (dk_at dksX4_lays_4 11 rfl rfl)
theorem dX4_lays_107 : decode cX4_lays 107 = .ok (.iadd, 1) := dk_96 (dk_at dksX4_lays_4 12 rfl rfl)
theorem dX4_lays_108 : decode cX4_lays 108 = .ok (.dup2, 1) := dk_92 (dk_at dksX4_lays_4 13 rfl rfl)
theorem dX4_lays_109 : decode cX4_lays 109 = .ok (.iaload, 1) := dk_46 (dk_at dksX4_lays_4 14 rfl rfl)
theorem dX4_lays_110 : decode cX4_lays 110 = .ok (.aload_n 0, 1) := dk_42 (dk_at dksX4_lays_4 15 rfl rfl)
theorem dX4_lays_111 : decode cX4_lays 111 = .ok (.getfield 50, 3) := dk_180 0 50 (dk_at dksX4_lays_4 16 rfl rfl)
theorem dX4_lays_114 : decode cX4_lays 114 = .ok (.iload_n 2, 1) := dk_28 (dk_at dksX4_lays_4 19 rfl rfl)
theorem dX4_lays_115 : decode cX4_lays 115 = .ok (.iload_n 3, 1) := dk_29 (dk_at dksX4_lays_4 20 rfl rfl)
theorem dX4_lays_116 : decode cX4_lays 116 = .ok (.iadd, 1) := dk_96 (dk_at dksX4_lays_4 21 rfl rfl)
theorem dX4_lays_117 : decode cX4_lays 117 = .ok (.iconst 1, 1) := dk_4 (dk_at dksX4_lays_4 22 rfl rfl)
theorem dX4_lays_118 : decode cX4_lays 118 = .ok (.isub, 1) := dk_100 (dk_at dksX4_lays_4 23 rfl rfl)
theorem dX4_lays_119 : decode cX4_lays 119 = .ok (.iaload, 1) := dk_46 (dk_at dksX4_lays_5 0 rfl rfl)
theorem dX4_lays_120 : decode cX4_lays 120 = .ok (.iadd, 1) := dk_96 (dk_at dksX4_lays_5 1 rfl rfl)
theorem dX4_lays_121 : decode cX4_lays 121 = .ok (.iastore, 1) := dk_79 (dk_at dksX4_lays_5 2 rfl rfl)
theorem dX4_lays_122 : decode cX4_lays 122 = .ok (.iinc 3 1, 3) := dk_132 3 1 (dk_at dksX4_lays_5 3 rfl rfl)
theorem dX4_lays_125 : decode cX4_lays 125 = .ok (.goto (-31), 3) := dk_167 255 225 (dk_at dksX4_lays_5 6 rfl rfl)
theorem dX4_lays_128 : decode cX4_lays 128 = .ok (.return_, 1) := dk_177 (dk_at dksX4_lays_5 9 rfl rfl)
abbrev cX4_laysSpeeds : ByteArray := prog_17_method_74_code
def yX4_laysSpeeds : MethodName := ⟨RX4, "laysSpeeds", "(III)V"⟩
def dkwX4_laysSpeeds_5 : List UInt8 := [167, 255, 167, 177]
abbrev dktX4_laysSpeeds_5 : List UInt8 := dkwX4_laysSpeeds_5 ++ []
def dkwX4_laysSpeeds_4 : List UInt8 := [180, 1, 5, 163, 0, 12, 42, 180, 1, 2, 4, 100, 167, 0, 5, 21, 6, 104, 79, 132, 5, 1]
abbrev dktX4_laysSpeeds_4 : List UInt8 := dkwX4_laysSpeeds_4 ++ dktX4_laysSpeeds_5
def dkwX4_laysSpeeds_3 : List UInt8 := [182, 0, 77, 96, 21, 5, 96, 42, 180, 0, 255, 21, 6, 42, 180, 1, 2, 160, 0, 21, 21, 4, 42]
abbrev dktX4_laysSpeeds_3 : List UInt8 := dkwX4_laysSpeeds_3 ++ dktX4_laysSpeeds_4
def dkwX4_laysSpeeds_2 : List UInt8 := [180, 1, 2, 160, 0, 7, 4, 167, 0, 4, 3, 96, 54, 4, 42, 180, 0, 50, 29, 42, 28, 3]
abbrev dktX4_laysSpeeds_2 : List UInt8 := dkwX4_laysSpeeds_2 ++ dktX4_laysSpeeds_3
def dkwX4_laysSpeeds_1 : List UInt8 := [21, 5, 42, 180, 0, 252, 163, 0, 86, 42, 21, 5, 182, 1, 8, 54, 6, 21, 4, 21, 6, 42]
abbrev dktX4_laysSpeeds_1 : List UInt8 := dkwX4_laysSpeeds_1 ++ dktX4_laysSpeeds_2
def dkwX4_laysSpeeds_0 : List UInt8 := [42, 27, 42, 180, 0, 43, 28, 46, 42, 28, 4, 182, 0, 77, 182, 1, 17, 3, 54, 4, 4, 54, 5]
abbrev dktX4_laysSpeeds_0 : List UInt8 := dkwX4_laysSpeeds_0 ++ dktX4_laysSpeeds_1
theorem dksX4_laysSpeeds_0 : cX4_laysSpeeds.data.toList.drop 0 = dktX4_laysSpeeds_0 := by decide +kernel
theorem dksX4_laysSpeeds_1 : cX4_laysSpeeds.data.toList.drop 23 = dktX4_laysSpeeds_1 := dk_seg dksX4_laysSpeeds_0 23 rfl rfl
theorem dksX4_laysSpeeds_2 : cX4_laysSpeeds.data.toList.drop 45 = dktX4_laysSpeeds_2 := dk_seg dksX4_laysSpeeds_1 22 rfl rfl
theorem dksX4_laysSpeeds_3 : cX4_laysSpeeds.data.toList.drop 67 = dktX4_laysSpeeds_3 := dk_seg dksX4_laysSpeeds_2 22 rfl rfl
theorem dksX4_laysSpeeds_4 : cX4_laysSpeeds.data.toList.drop 90 = dktX4_laysSpeeds_4 := dk_seg dksX4_laysSpeeds_3 23 rfl rfl
theorem dksX4_laysSpeeds_5 : cX4_laysSpeeds.data.toList.drop 112 = dktX4_laysSpeeds_5 := dk_seg dksX4_laysSpeeds_4 22 rfl rfl
theorem dX4_laysSpeeds_0 : decode cX4_laysSpeeds 0 = .ok (.aload_n 0, 1) := dk_42 (dk_at dksX4_laysSpeeds_0 0 rfl rfl)
theorem dX4_laysSpeeds_1 : decode cX4_laysSpeeds 1 = .ok (.iload_n 1, 1) := dk_27 (dk_at dksX4_laysSpeeds_0 1 rfl rfl)
theorem dX4_laysSpeeds_2 : decode cX4_laysSpeeds 2 = .ok (.aload_n 0, 1) := dk_42 (dk_at dksX4_laysSpeeds_0 2 rfl rfl)
theorem dX4_laysSpeeds_3 : decode cX4_laysSpeeds 3 = .ok (.getfield 43, 3) := dk_180 0 43 (dk_at dksX4_laysSpeeds_0 3 rfl rfl)
theorem dX4_laysSpeeds_6 : decode cX4_laysSpeeds 6 = .ok (.iload_n 2, 1) := dk_28 (dk_at dksX4_laysSpeeds_0 6 rfl rfl)
theorem dX4_laysSpeeds_7 : decode cX4_laysSpeeds 7 = .ok (.iaload, 1) := dk_46 (dk_at dksX4_laysSpeeds_0 7 rfl rfl)
theorem dX4_laysSpeeds_8 : decode cX4_laysSpeeds 8 = .ok (.aload_n 0, 1) := dk_42 (dk_at dksX4_laysSpeeds_0 8 rfl rfl)
theorem dX4_laysSpeeds_9 : decode cX4_laysSpeeds 9 = .ok (.iload_n 2, 1) := dk_28 (dk_at dksX4_laysSpeeds_0 9 rfl rfl)
theorem dX4_laysSpeeds_10 : decode cX4_laysSpeeds 10 = .ok (.iconst 1, 1) := dk_4 (dk_at dksX4_laysSpeeds_0 10 rfl rfl)
theorem dX4_laysSpeeds_11 : decode cX4_laysSpeeds 11 = .ok (.invokevirtual 77, 3) := dk_182 0 77 (dk_at dksX4_laysSpeeds_0 11 rfl rfl)
theorem dX4_laysSpeeds_14 : decode cX4_laysSpeeds 14 = .ok (.invokevirtual 273, 3) := dk_182 1 17 (dk_at dksX4_laysSpeeds_0 14 rfl rfl)
theorem dX4_laysSpeeds_17 : decode cX4_laysSpeeds 17 = .ok (.iconst 0, 1) := dk_3 (dk_at dksX4_laysSpeeds_0 17 rfl rfl)
theorem dX4_laysSpeeds_18 : decode cX4_laysSpeeds 18 = .ok (.istore 4, 2) := dk_54 4 (dk_at dksX4_laysSpeeds_0 18 rfl rfl)
theorem dX4_laysSpeeds_20 : decode cX4_laysSpeeds 20 = .ok (.iconst 1, 1) := dk_4 (dk_at dksX4_laysSpeeds_0 20 rfl rfl)
theorem dX4_laysSpeeds_21 : decode cX4_laysSpeeds 21 = .ok (.istore 5, 2) := dk_54 5 (dk_at dksX4_laysSpeeds_0 21 rfl rfl)
theorem dX4_laysSpeeds_23 : decode cX4_laysSpeeds 23 = .ok (.iload 5, 2) := dk_21 5 (dk_at dksX4_laysSpeeds_1 0 rfl rfl)
theorem dX4_laysSpeeds_25 : decode cX4_laysSpeeds 25 = .ok (.aload_n 0, 1) := dk_42 (dk_at dksX4_laysSpeeds_1 2 rfl rfl)
theorem dX4_laysSpeeds_26 : decode cX4_laysSpeeds 26 = .ok (.getfield 252, 3) := dk_180 0 252 (dk_at dksX4_laysSpeeds_1 3 rfl rfl)
theorem dX4_laysSpeeds_29 : decode cX4_laysSpeeds 29 = .ok (.if_icmp .gt 86, 3) := dk_163 0 86 (dk_at dksX4_laysSpeeds_1 6 rfl rfl)
theorem dX4_laysSpeeds_32 : decode cX4_laysSpeeds 32 = .ok (.aload_n 0, 1) := dk_42 (dk_at dksX4_laysSpeeds_1 9 rfl rfl)
theorem dX4_laysSpeeds_33 : decode cX4_laysSpeeds 33 = .ok (.iload 5, 2) := dk_21 5 (dk_at dksX4_laysSpeeds_1 10 rfl rfl)
theorem dX4_laysSpeeds_35 : decode cX4_laysSpeeds 35 = .ok (.invokevirtual 264, 3) := dk_182 1 8 (dk_at dksX4_laysSpeeds_1 12 rfl rfl)
theorem dX4_laysSpeeds_38 : decode cX4_laysSpeeds 38 = .ok (.istore 6, 2) := dk_54 6 (dk_at dksX4_laysSpeeds_1 15 rfl rfl)
theorem dX4_laysSpeeds_40 : decode cX4_laysSpeeds 40 = .ok (.iload 4, 2) := dk_21 4 (dk_at dksX4_laysSpeeds_1 17 rfl rfl)
theorem dX4_laysSpeeds_42 : decode cX4_laysSpeeds 42 = .ok (.iload 6, 2) := dk_21 6 (dk_at dksX4_laysSpeeds_1 19 rfl rfl)
theorem dX4_laysSpeeds_44 : decode cX4_laysSpeeds 44 = .ok (.aload_n 0, 1) := dk_42 (dk_at dksX4_laysSpeeds_1 21 rfl rfl)
theorem dX4_laysSpeeds_45 : decode cX4_laysSpeeds 45 = .ok (.getfield 258, 3) := dk_180 1 2 (dk_at dksX4_laysSpeeds_2 0 rfl rfl)
theorem dX4_laysSpeeds_48 : decode cX4_laysSpeeds 48 = .ok (.if_icmp .ne 7, 3) := dk_160 0 7 (dk_at dksX4_laysSpeeds_2 3 rfl rfl)
theorem dX4_laysSpeeds_51 : decode cX4_laysSpeeds 51 = .ok (.iconst 1, 1) := dk_4 (dk_at dksX4_laysSpeeds_2 6 rfl rfl)
theorem dX4_laysSpeeds_52 : decode cX4_laysSpeeds 52 = .ok (.goto 4, 3) := dk_167 0 4 (dk_at dksX4_laysSpeeds_2 7 rfl rfl)
theorem dX4_laysSpeeds_55 : decode cX4_laysSpeeds 55 = .ok (.iconst 0, 1) := dk_3 (dk_at dksX4_laysSpeeds_2 10 rfl rfl)
theorem dX4_laysSpeeds_56 : decode cX4_laysSpeeds 56 = .ok (.iadd, 1) := dk_96 (dk_at dksX4_laysSpeeds_2 11 rfl rfl)
theorem dX4_laysSpeeds_57 : decode cX4_laysSpeeds 57 = .ok (.istore 4, 2) := dk_54 4 (dk_at dksX4_laysSpeeds_2 12 rfl rfl)
theorem dX4_laysSpeeds_59 : decode cX4_laysSpeeds 59 = .ok (.aload_n 0, 1) := dk_42 (dk_at dksX4_laysSpeeds_2 14 rfl rfl)
theorem dX4_laysSpeeds_60 : decode cX4_laysSpeeds 60 = .ok (.getfield 50, 3) := dk_180 0 50 (dk_at dksX4_laysSpeeds_2 15 rfl rfl)
theorem dX4_laysSpeeds_63 : decode cX4_laysSpeeds 63 = .ok (.iload_n 3, 1) := dk_29 (dk_at dksX4_laysSpeeds_2 18 rfl rfl)
theorem dX4_laysSpeeds_64 : decode cX4_laysSpeeds 64 = .ok (.aload_n 0, 1) := dk_42 (dk_at dksX4_laysSpeeds_2 19 rfl rfl)
theorem dX4_laysSpeeds_65 : decode cX4_laysSpeeds 65 = .ok (.iload_n 2, 1) := dk_28 (dk_at dksX4_laysSpeeds_2 20 rfl rfl)
theorem dX4_laysSpeeds_66 : decode cX4_laysSpeeds 66 = .ok (.iconst 0, 1) := dk_3 (dk_at dksX4_laysSpeeds_2 21 rfl rfl)
theorem dX4_laysSpeeds_67 : decode cX4_laysSpeeds 67 = .ok (.invokevirtual 77, 3) := dk_182 0 77 (dk_at dksX4_laysSpeeds_3 0 rfl rfl)
theorem dX4_laysSpeeds_70 : decode cX4_laysSpeeds 70 = .ok (.iadd, 1) := dk_96 (dk_at dksX4_laysSpeeds_3 3 rfl rfl)
theorem dX4_laysSpeeds_71 : decode cX4_laysSpeeds 71 = .ok (.iload 5, 2) := dk_21 5 (dk_at dksX4_laysSpeeds_3 4 rfl rfl)
theorem dX4_laysSpeeds_73 : decode cX4_laysSpeeds 73 = .ok (.iadd, 1) := dk_96 (dk_at dksX4_laysSpeeds_3 6 rfl rfl)
theorem dX4_laysSpeeds_74 : decode cX4_laysSpeeds 74 = .ok (.aload_n 0, 1) := dk_42 (dk_at dksX4_laysSpeeds_3 7 rfl rfl)
theorem dX4_laysSpeeds_75 : decode cX4_laysSpeeds 75 = .ok (.getfield 255, 3) := dk_180 0 255 (dk_at dksX4_laysSpeeds_3 8 rfl rfl)
theorem dX4_laysSpeeds_78 : decode cX4_laysSpeeds 78 = .ok (.iload 6, 2) := dk_21 6 (dk_at dksX4_laysSpeeds_3 11 rfl rfl)
theorem dX4_laysSpeeds_80 : decode cX4_laysSpeeds 80 = .ok (.aload_n 0, 1) := dk_42 (dk_at dksX4_laysSpeeds_3 13 rfl rfl)
theorem dX4_laysSpeeds_81 : decode cX4_laysSpeeds 81 = .ok (.getfield 258, 3) := dk_180 1 2 (dk_at dksX4_laysSpeeds_3 14 rfl rfl)
theorem dX4_laysSpeeds_84 : decode cX4_laysSpeeds 84 = .ok (.if_icmp .ne 21, 3) := dk_160 0 21 (dk_at dksX4_laysSpeeds_3 17 rfl rfl)
theorem dX4_laysSpeeds_87 : decode cX4_laysSpeeds 87 = .ok (.iload 4, 2) := dk_21 4 (dk_at dksX4_laysSpeeds_3 20 rfl rfl)
theorem dX4_laysSpeeds_89 : decode cX4_laysSpeeds 89 = .ok (.aload_n 0, 1) := dk_42 (dk_at dksX4_laysSpeeds_3 22 rfl rfl)
theorem dX4_laysSpeeds_90 : decode cX4_laysSpeeds 90 = .ok (.getfield 261, 3) := dk_180 1 5 (dk_at dksX4_laysSpeeds_4 0 rfl rfl)
theorem dX4_laysSpeeds_93 : decode cX4_laysSpeeds 93 = .ok (.if_icmp .gt 12, 3) := dk_163 0 12 (dk_at dksX4_laysSpeeds_4 3 rfl rfl)
theorem dX4_laysSpeeds_96 : decode cX4_laysSpeeds 96 = .ok (.aload_n 0, 1) := dk_42 (dk_at dksX4_laysSpeeds_4 6 rfl rfl)
theorem dX4_laysSpeeds_97 : decode cX4_laysSpeeds 97 = .ok (.getfield 258, 3) := dk_180 1 2 (dk_at dksX4_laysSpeeds_4 7 rfl rfl)
theorem dX4_laysSpeeds_100 : decode cX4_laysSpeeds 100 = .ok (.iconst 1, 1) := dk_4 (dk_at dksX4_laysSpeeds_4 10 rfl rfl)
theorem dX4_laysSpeeds_101 : decode cX4_laysSpeeds 101 = .ok (.isub, 1) := dk_100 (dk_at dksX4_laysSpeeds_4 11 rfl rfl)
theorem dX4_laysSpeeds_102 : decode cX4_laysSpeeds 102 = .ok (.goto 5, 3) := dk_167 0 5 (dk_at dksX4_laysSpeeds_4 12 rfl rfl)
theorem dX4_laysSpeeds_105 : decode cX4_laysSpeeds 105 = .ok (.iload 6, 2) := dk_21 6 (dk_at dksX4_laysSpeeds_4 15 rfl rfl)
theorem dX4_laysSpeeds_107 : decode cX4_laysSpeeds 107 = .ok (.imul, 1) := dk_104 (dk_at dksX4_laysSpeeds_4 17 rfl rfl)
theorem dX4_laysSpeeds_108 : decode cX4_laysSpeeds 108 = .ok (.iastore, 1) := dk_79 (dk_at dksX4_laysSpeeds_4 18 rfl rfl)
theorem dX4_laysSpeeds_109 : decode cX4_laysSpeeds 109 = .ok (.iinc 5 1, 3) := dk_132 5 1 (dk_at dksX4_laysSpeeds_4 19 rfl rfl)
theorem dX4_laysSpeeds_112 : decode cX4_laysSpeeds 112 = .ok (.goto (-89), 3) := dk_167 255 167 (dk_at dksX4_laysSpeeds_5 0 rfl rfl)
theorem dX4_laysSpeeds_115 : decode cX4_laysSpeeds 115 = .ok (.return_, 1) := dk_177 (dk_at dksX4_laysSpeeds_5 3 rfl rfl)
abbrev cX4_placeAt : ByteArray := prog_17_method_76_code
def yX4_placeAt : MethodName := ⟨RX4, "placeAt", "(II)I"⟩
def dkwX4_placeAt_0 : List UInt8 := [42, 180, 0, 50, 17, 3, 232, 27, 104, 28, 96, 46, 172]
abbrev dktX4_placeAt_0 : List UInt8 := dkwX4_placeAt_0 ++ []
theorem dksX4_placeAt_0 : cX4_placeAt.data.toList.drop 0 = dktX4_placeAt_0 := by decide +kernel
theorem dX4_placeAt_0 : decode cX4_placeAt 0 = .ok (.aload_n 0, 1) := dk_42 (dk_at dksX4_placeAt_0 0 rfl rfl)
theorem dX4_placeAt_1 : decode cX4_placeAt 1 = .ok (.getfield 50, 3) := dk_180 0 50 (dk_at dksX4_placeAt_0 1 rfl rfl)
theorem dX4_placeAt_4 : decode cX4_placeAt 4 = .ok (.sipush 1000, 3) := dk_17 3 232 (dk_at dksX4_placeAt_0 4 rfl rfl)
theorem dX4_placeAt_7 : decode cX4_placeAt 7 = .ok (.iload_n 1, 1) := dk_27 (dk_at dksX4_placeAt_0 7 rfl rfl)
theorem dX4_placeAt_8 : decode cX4_placeAt 8 = .ok (.imul, 1) := dk_104 (dk_at dksX4_placeAt_0 8 rfl rfl)
theorem dX4_placeAt_9 : decode cX4_placeAt 9 = .ok (.iload_n 2, 1) := dk_28 (dk_at dksX4_placeAt_0 9 rfl rfl)
theorem dX4_placeAt_10 : decode cX4_placeAt 10 = .ok (.iadd, 1) := dk_96 (dk_at dksX4_placeAt_0 10 rfl rfl)
theorem dX4_placeAt_11 : decode cX4_placeAt 11 = .ok (.iaload, 1) := dk_46 (dk_at dksX4_placeAt_0 11 rfl rfl)
theorem dX4_placeAt_12 : decode cX4_placeAt 12 = .ok (.ireturn, 1) := dk_172 (dk_at dksX4_placeAt_0 12 rfl rfl)
abbrev cX4_speed : ByteArray := prog_17_method_80_code
def yX4_speed : MethodName := ⟨RX4, "speed", "(II)I"⟩
def dkwX4_speed_0 : List UInt8 := [42, 27, 28, 182, 1, 48, 153, 0, 12, 42, 27, 28, 182, 1, 51, 167, 0, 4, 3, 172]
abbrev dktX4_speed_0 : List UInt8 := dkwX4_speed_0 ++ []
theorem dksX4_speed_0 : cX4_speed.data.toList.drop 0 = dktX4_speed_0 := by decide +kernel
theorem dX4_speed_0 : decode cX4_speed 0 = .ok (.aload_n 0, 1) := dk_42 (dk_at dksX4_speed_0 0 rfl rfl)
theorem dX4_speed_1 : decode cX4_speed 1 = .ok (.iload_n 1, 1) := dk_27 (dk_at dksX4_speed_0 1 rfl rfl)
theorem dX4_speed_2 : decode cX4_speed 2 = .ok (.iload_n 2, 1) := dk_28 (dk_at dksX4_speed_0 2 rfl rfl)
theorem dX4_speed_3 : decode cX4_speed 3 = .ok (.invokevirtual 304, 3) := dk_182 1 48 (dk_at dksX4_speed_0 3 rfl rfl)
theorem dX4_speed_6 : decode cX4_speed 6 = .ok (.ifCond .eq 12, 3) := dk_153 0 12 (dk_at dksX4_speed_0 6 rfl rfl)
theorem dX4_speed_9 : decode cX4_speed 9 = .ok (.aload_n 0, 1) := dk_42 (dk_at dksX4_speed_0 9 rfl rfl)
theorem dX4_speed_10 : decode cX4_speed 10 = .ok (.iload_n 1, 1) := dk_27 (dk_at dksX4_speed_0 10 rfl rfl)
theorem dX4_speed_11 : decode cX4_speed 11 = .ok (.iload_n 2, 1) := dk_28 (dk_at dksX4_speed_0 11 rfl rfl)
theorem dX4_speed_12 : decode cX4_speed 12 = .ok (.invokevirtual 307, 3) := dk_182 1 51 (dk_at dksX4_speed_0 12 rfl rfl)
theorem dX4_speed_15 : decode cX4_speed 15 = .ok (.goto 4, 3) := dk_167 0 4 (dk_at dksX4_speed_0 15 rfl rfl)
theorem dX4_speed_18 : decode cX4_speed 18 = .ok (.iconst 0, 1) := dk_3 (dk_at dksX4_speed_0 18 rfl rfl)
theorem dX4_speed_19 : decode cX4_speed 19 = .ok (.ireturn, 1) := dk_172 (dk_at dksX4_speed_0 19 rfl rfl)
abbrev cX4_speedAt : ByteArray := prog_17_method_77_code
def yX4_speedAt : MethodName := ⟨RX4, "speedAt", "(II)I"⟩
def dkwX4_speedAt_0 : List UInt8 := [28, 154, 0, 7, 3, 167, 0, 18, 42, 27, 28, 182, 1, 42, 42, 27, 28, 4, 100, 182, 1, 42, 100, 172]
abbrev dktX4_speedAt_0 : List UInt8 := dkwX4_speedAt_0 ++ []
theorem dksX4_speedAt_0 : cX4_speedAt.data.toList.drop 0 = dktX4_speedAt_0 := by decide +kernel
theorem dX4_speedAt_0 : decode cX4_speedAt 0 = .ok (.iload_n 2, 1) := dk_28 (dk_at dksX4_speedAt_0 0 rfl rfl)
theorem dX4_speedAt_1 : decode cX4_speedAt 1 = .ok (.ifCond .ne 7, 3) := dk_154 0 7 (dk_at dksX4_speedAt_0 1 rfl rfl)
theorem dX4_speedAt_4 : decode cX4_speedAt 4 = .ok (.iconst 0, 1) := dk_3 (dk_at dksX4_speedAt_0 4 rfl rfl)
theorem dX4_speedAt_5 : decode cX4_speedAt 5 = .ok (.goto 18, 3) := dk_167 0 18 (dk_at dksX4_speedAt_0 5 rfl rfl)
theorem dX4_speedAt_8 : decode cX4_speedAt 8 = .ok (.aload_n 0, 1) := dk_42 (dk_at dksX4_speedAt_0 8 rfl rfl)
theorem dX4_speedAt_9 : decode cX4_speedAt 9 = .ok (.iload_n 1, 1) := dk_27 (dk_at dksX4_speedAt_0 9 rfl rfl)
theorem dX4_speedAt_10 : decode cX4_speedAt 10 = .ok (.iload_n 2, 1) := dk_28 (dk_at dksX4_speedAt_0 10 rfl rfl)
theorem dX4_speedAt_11 : decode cX4_speedAt 11 = .ok (.invokevirtual 298, 3) := dk_182 1 42 (dk_at dksX4_speedAt_0 11 rfl rfl)
theorem dX4_speedAt_14 : decode cX4_speedAt 14 = .ok (.aload_n 0, 1) := dk_42 (dk_at dksX4_speedAt_0 14 rfl rfl)
theorem dX4_speedAt_15 : decode cX4_speedAt 15 = .ok (.iload_n 1, 1) := dk_27 (dk_at dksX4_speedAt_0 15 rfl rfl)
theorem dX4_speedAt_16 : decode cX4_speedAt 16 = .ok (.iload_n 2, 1) := dk_28 (dk_at dksX4_speedAt_0 16 rfl rfl)
theorem dX4_speedAt_17 : decode cX4_speedAt 17 = .ok (.iconst 1, 1) := dk_4 (dk_at dksX4_speedAt_0 17 rfl rfl)
theorem dX4_speedAt_18 : decode cX4_speedAt 18 = .ok (.isub, 1) := dk_100 (dk_at dksX4_speedAt_0 18 rfl rfl)
theorem dX4_speedAt_19 : decode cX4_speedAt 19 = .ok (.invokevirtual 298, 3) := dk_182 1 42 (dk_at dksX4_speedAt_0 19 rfl rfl)
theorem dX4_speedAt_22 : decode cX4_speedAt 22 = .ok (.isub, 1) := dk_100 (dk_at dksX4_speedAt_0 22 rfl rfl)
theorem dX4_speedAt_23 : decode cX4_speedAt 23 = .ok (.ireturn, 1) := dk_172 (dk_at dksX4_speedAt_0 23 rfl rfl)
abbrev cX4_moving : ByteArray := prog_17_method_82_code
def yX4_moving : MethodName := ⟨RX4, "moving", "(I)I"⟩
def dkwX4_moving_1 : List UInt8 := [182, 1, 57, 172]
abbrev dktX4_moving_1 : List UInt8 := dkwX4_moving_1 ++ []
def dkwX4_moving_0 : List UInt8 := [42, 3, 181, 0, 63, 27, 184, 1, 45, 154, 0, 9, 42, 4, 182, 0, 98, 172, 42, 182, 1, 54, 42, 27]
abbrev dktX4_moving_0 : List UInt8 := dkwX4_moving_0 ++ dktX4_moving_1
theorem dksX4_moving_0 : cX4_moving.data.toList.drop 0 = dktX4_moving_0 := by decide +kernel
theorem dksX4_moving_1 : cX4_moving.data.toList.drop 24 = dktX4_moving_1 := dk_seg dksX4_moving_0 24 rfl rfl
theorem dX4_moving_0 : decode cX4_moving 0 = .ok (.aload_n 0, 1) := dk_42 (dk_at dksX4_moving_0 0 rfl rfl)
theorem dX4_moving_1 : decode cX4_moving 1 = .ok (.iconst 0, 1) := dk_3 (dk_at dksX4_moving_0 1 rfl rfl)
theorem dX4_moving_2 : decode cX4_moving 2 = .ok (.putfield 63, 3) := dk_181 0 63 (dk_at dksX4_moving_0 2 rfl rfl)
theorem dX4_moving_5 : decode cX4_moving 5 = .ok (.iload_n 1, 1) := dk_27 (dk_at dksX4_moving_0 5 rfl rfl)
theorem dX4_moving_6 : decode cX4_moving 6 = .ok (.invokestatic 301, 3) := dk_184 1 45 (dk_at dksX4_moving_0 6 rfl rfl)
theorem dX4_moving_9 : decode cX4_moving 9 = .ok (.ifCond .ne 9, 3) := dk_154 0 9 (dk_at dksX4_moving_0 9 rfl rfl)
theorem dX4_moving_12 : decode cX4_moving 12 = .ok (.aload_n 0, 1) := dk_42 (dk_at dksX4_moving_0 12 rfl rfl)
theorem dX4_moving_13 : decode cX4_moving 13 = .ok (.iconst 1, 1) := dk_4 (dk_at dksX4_moving_0 13 rfl rfl)
theorem dX4_moving_14 : decode cX4_moving 14 = .ok (.invokevirtual 98, 3) := dk_182 0 98 (dk_at dksX4_moving_0 14 rfl rfl)
theorem dX4_moving_17 : decode cX4_moving 17 = .ok (.ireturn, 1) := dk_172 (dk_at dksX4_moving_0 17 rfl rfl)
theorem dX4_moving_18 : decode cX4_moving 18 = .ok (.aload_n 0, 1) := dk_42 (dk_at dksX4_moving_0 18 rfl rfl)
theorem dX4_moving_19 : decode cX4_moving 19 = .ok (.invokevirtual 310, 3) := dk_182 1 54 (dk_at dksX4_moving_0 19 rfl rfl)
theorem dX4_moving_22 : decode cX4_moving 22 = .ok (.aload_n 0, 1) := dk_42 (dk_at dksX4_moving_0 22 rfl rfl)
theorem dX4_moving_23 : decode cX4_moving 23 = .ok (.iload_n 1, 1) := dk_27 (dk_at dksX4_moving_0 23 rfl rfl)
theorem dX4_moving_24 : decode cX4_moving 24 = .ok (.invokevirtual 313, 3) := dk_182 1 57 (dk_at dksX4_moving_1 0 rfl rfl)
theorem dX4_moving_27 : decode cX4_moving 27 = .ok (.ireturn, 1) := dk_172 (dk_at dksX4_moving_1 3 rfl rfl)
abbrev cX4_laysAll : ByteArray := prog_17_method_75_code
def yX4_laysAll : MethodName := ⟨RX4, "laysAll", "()V"⟩
def dkwX4_laysAll_0 : List UInt8 := [3, 60, 27, 42, 180, 0, 81, 162, 0, 14, 42, 27, 182, 1, 39, 132, 1, 1, 167, 255, 240, 177]
abbrev dktX4_laysAll_0 : List UInt8 := dkwX4_laysAll_0 ++ []
theorem dksX4_laysAll_0 : cX4_laysAll.data.toList.drop 0 = dktX4_laysAll_0 := by decide +kernel
theorem dX4_laysAll_0 : decode cX4_laysAll 0 = .ok (.iconst 0, 1) := dk_3 (dk_at dksX4_laysAll_0 0 rfl rfl)
theorem dX4_laysAll_1 : decode cX4_laysAll 1 = .ok (.istore_n 1, 1) := dk_60 (dk_at dksX4_laysAll_0 1 rfl rfl)
theorem dX4_laysAll_2 : decode cX4_laysAll 2 = .ok (.iload_n 1, 1) := dk_27 (dk_at dksX4_laysAll_0 2 rfl rfl)
theorem dX4_laysAll_3 : decode cX4_laysAll 3 = .ok (.aload_n 0, 1) := dk_42 (dk_at dksX4_laysAll_0 3 rfl rfl)
theorem dX4_laysAll_4 : decode cX4_laysAll 4 = .ok (.getfield 81, 3) := dk_180 0 81 (dk_at dksX4_laysAll_0 4 rfl rfl)
theorem dX4_laysAll_7 : decode cX4_laysAll 7 = .ok (.if_icmp .ge 14, 3) := dk_162 0 14 (dk_at dksX4_laysAll_0 7 rfl rfl)
theorem dX4_laysAll_10 : decode cX4_laysAll 10 = .ok (.aload_n 0, 1) := dk_42 (dk_at dksX4_laysAll_0 10 rfl rfl)
theorem dX4_laysAll_11 : decode cX4_laysAll 11 = .ok (.iload_n 1, 1) := dk_27 (dk_at dksX4_laysAll_0 11 rfl rfl)
theorem dX4_laysAll_12 : decode cX4_laysAll 12 = .ok (.invokevirtual 295, 3) := dk_182 1 39 (dk_at dksX4_laysAll_0 12 rfl rfl)
theorem dX4_laysAll_15 : decode cX4_laysAll 15 = .ok (.iinc 1 1, 3) := dk_132 1 1 (dk_at dksX4_laysAll_0 15 rfl rfl)
theorem dX4_laysAll_18 : decode cX4_laysAll 18 = .ok (.goto (-16), 3) := dk_167 255 240 (dk_at dksX4_laysAll_0 18 rfl rfl)
theorem dX4_laysAll_21 : decode cX4_laysAll 21 = .ok (.return_, 1) := dk_177 (dk_at dksX4_laysAll_0 21 rfl rfl)
abbrev cX4_movingAt : ByteArray := prog_17_method_81_code
def yX4_movingAt : MethodName := ⟨RX4, "movingAt", "(I)I"⟩
def dkwX4_movingAt_1 : List UInt8 := [120, 128, 61, 132, 3, 1, 167, 255, 230, 28, 172]
abbrev dktX4_movingAt_1 : List UInt8 := dkwX4_movingAt_1 ++ []
def dkwX4_movingAt_0 : List UInt8 := [3, 61, 3, 62, 29, 42, 180, 0, 81, 162, 0, 24, 42, 29, 27, 182, 1, 51, 153, 0, 9, 28, 4, 29]
abbrev dktX4_movingAt_0 : List UInt8 := dkwX4_movingAt_0 ++ dktX4_movingAt_1
theorem dksX4_movingAt_0 : cX4_movingAt.data.toList.drop 0 = dktX4_movingAt_0 := by decide +kernel
theorem dksX4_movingAt_1 : cX4_movingAt.data.toList.drop 24 = dktX4_movingAt_1 := dk_seg dksX4_movingAt_0 24 rfl rfl
theorem dX4_movingAt_0 : decode cX4_movingAt 0 = .ok (.iconst 0, 1) := dk_3 (dk_at dksX4_movingAt_0 0 rfl rfl)
theorem dX4_movingAt_1 : decode cX4_movingAt 1 = .ok (.istore_n 2, 1) := dk_61 (dk_at dksX4_movingAt_0 1 rfl rfl)
theorem dX4_movingAt_2 : decode cX4_movingAt 2 = .ok (.iconst 0, 1) := dk_3 (dk_at dksX4_movingAt_0 2 rfl rfl)
theorem dX4_movingAt_3 : decode cX4_movingAt 3 = .ok (.istore_n 3, 1) := dk_62 (dk_at dksX4_movingAt_0 3 rfl rfl)
theorem dX4_movingAt_4 : decode cX4_movingAt 4 = .ok (.iload_n 3, 1) := dk_29 (dk_at dksX4_movingAt_0 4 rfl rfl)
theorem dX4_movingAt_5 : decode cX4_movingAt 5 = .ok (.aload_n 0, 1) := dk_42 (dk_at dksX4_movingAt_0 5 rfl rfl)
theorem dX4_movingAt_6 : decode cX4_movingAt 6 = .ok (.getfield 81, 3) := dk_180 0 81 (dk_at dksX4_movingAt_0 6 rfl rfl)
theorem dX4_movingAt_9 : decode cX4_movingAt 9 = .ok (.if_icmp .ge 24, 3) := dk_162 0 24 (dk_at dksX4_movingAt_0 9 rfl rfl)
theorem dX4_movingAt_12 : decode cX4_movingAt 12 = .ok (.aload_n 0, 1) := dk_42 (dk_at dksX4_movingAt_0 12 rfl rfl)
theorem dX4_movingAt_13 : decode cX4_movingAt 13 = .ok (.iload_n 3, 1) := dk_29 (dk_at dksX4_movingAt_0 13 rfl rfl)
theorem dX4_movingAt_14 : decode cX4_movingAt 14 = .ok (.iload_n 1, 1) := dk_27 (dk_at dksX4_movingAt_0 14 rfl rfl)
theorem dX4_movingAt_15 : decode cX4_movingAt 15 = .ok (.invokevirtual 307, 3) := dk_182 1 51 (dk_at dksX4_movingAt_0 15 rfl rfl)
theorem dX4_movingAt_18 : decode cX4_movingAt 18 = .ok (.ifCond .eq 9, 3) := dk_153 0 9 (dk_at dksX4_movingAt_0 18 rfl rfl)
theorem dX4_movingAt_21 : decode cX4_movingAt 21 = .ok (.iload_n 2, 1) := dk_28 (dk_at dksX4_movingAt_0 21 rfl rfl)
theorem dX4_movingAt_22 : decode cX4_movingAt 22 = .ok (.iconst 1, 1) := dk_4 (dk_at dksX4_movingAt_0 22 rfl rfl)
theorem dX4_movingAt_23 : decode cX4_movingAt 23 = .ok (.iload_n 3, 1) := dk_29 (dk_at dksX4_movingAt_0 23 rfl rfl)
theorem dX4_movingAt_24 : decode cX4_movingAt 24 = .ok (.ishl, 1) := dk_120 (dk_at dksX4_movingAt_1 0 rfl rfl)
theorem dX4_movingAt_25 : decode cX4_movingAt 25 = .ok (.ior, 1) := dk_128 (dk_at dksX4_movingAt_1 1 rfl rfl)
theorem dX4_movingAt_26 : decode cX4_movingAt 26 = .ok (.istore_n 2, 1) := dk_61 (dk_at dksX4_movingAt_1 2 rfl rfl)
theorem dX4_movingAt_27 : decode cX4_movingAt 27 = .ok (.iinc 3 1, 3) := dk_132 3 1 (dk_at dksX4_movingAt_1 3 rfl rfl)
theorem dX4_movingAt_30 : decode cX4_movingAt 30 = .ok (.goto (-26), 3) := dk_167 255 230 (dk_at dksX4_movingAt_1 6 rfl rfl)
theorem dX4_movingAt_33 : decode cX4_movingAt 33 = .ok (.iload_n 2, 1) := dk_28 (dk_at dksX4_movingAt_1 9 rfl rfl)
theorem dX4_movingAt_34 : decode cX4_movingAt 34 = .ok (.ireturn, 1) := dk_172 (dk_at dksX4_movingAt_1 10 rfl rfl)
abbrev cX4_end : ByteArray := prog_17_method_84_code
def yX4_end : MethodName := ⟨RX4, "end", "()I"⟩
def dkwX4_end_0 : List UInt8 := [42, 3, 181, 0, 63, 42, 182, 1, 54, 42, 182, 1, 60, 172]
abbrev dktX4_end_0 : List UInt8 := dkwX4_end_0 ++ []
theorem dksX4_end_0 : cX4_end.data.toList.drop 0 = dktX4_end_0 := by decide +kernel
theorem dX4_end_0 : decode cX4_end 0 = .ok (.aload_n 0, 1) := dk_42 (dk_at dksX4_end_0 0 rfl rfl)
theorem dX4_end_1 : decode cX4_end 1 = .ok (.iconst 0, 1) := dk_3 (dk_at dksX4_end_0 1 rfl rfl)
theorem dX4_end_2 : decode cX4_end 2 = .ok (.putfield 63, 3) := dk_181 0 63 (dk_at dksX4_end_0 2 rfl rfl)
theorem dX4_end_5 : decode cX4_end 5 = .ok (.aload_n 0, 1) := dk_42 (dk_at dksX4_end_0 5 rfl rfl)
theorem dX4_end_6 : decode cX4_end 6 = .ok (.invokevirtual 310, 3) := dk_182 1 54 (dk_at dksX4_end_0 6 rfl rfl)
theorem dX4_end_9 : decode cX4_end 9 = .ok (.aload_n 0, 1) := dk_42 (dk_at dksX4_end_0 9 rfl rfl)
theorem dX4_end_10 : decode cX4_end 10 = .ok (.invokevirtual 316, 3) := dk_182 1 60 (dk_at dksX4_end_0 10 rfl rfl)
theorem dX4_end_13 : decode cX4_end 13 = .ok (.ireturn, 1) := dk_172 (dk_at dksX4_end_0 13 rfl rfl)
abbrev cX4_lastMoving : ByteArray := prog_17_method_83_code
def yX4_lastMoving : MethodName := ⟨RX4, "lastMoving", "()I"⟩
def dkwX4_lastMoving_0 : List UInt8 := [17, 3, 231, 60, 27, 158, 0, 17, 42, 27, 182, 1, 57, 154, 0, 9, 132, 1, 255, 167, 255, 241, 27, 172]
abbrev dktX4_lastMoving_0 : List UInt8 := dkwX4_lastMoving_0 ++ []
theorem dksX4_lastMoving_0 : cX4_lastMoving.data.toList.drop 0 = dktX4_lastMoving_0 := by decide +kernel
theorem dX4_lastMoving_0 : decode cX4_lastMoving 0 = .ok (.sipush 999, 3) := dk_17 3 231 (dk_at dksX4_lastMoving_0 0 rfl rfl)
theorem dX4_lastMoving_3 : decode cX4_lastMoving 3 = .ok (.istore_n 1, 1) := dk_60 (dk_at dksX4_lastMoving_0 3 rfl rfl)
theorem dX4_lastMoving_4 : decode cX4_lastMoving 4 = .ok (.iload_n 1, 1) := dk_27 (dk_at dksX4_lastMoving_0 4 rfl rfl)
theorem dX4_lastMoving_5 : decode cX4_lastMoving 5 = .ok (.ifCond .le 17, 3) := dk_158 0 17 (dk_at dksX4_lastMoving_0 5 rfl rfl)
theorem dX4_lastMoving_8 : decode cX4_lastMoving 8 = .ok (.aload_n 0, 1) := dk_42 (dk_at dksX4_lastMoving_0 8 rfl rfl)
theorem dX4_lastMoving_9 : decode cX4_lastMoving 9 = .ok (.iload_n 1, 1) := dk_27 (dk_at dksX4_lastMoving_0 9 rfl rfl)
theorem dX4_lastMoving_10 : decode cX4_lastMoving 10 = .ok (.invokevirtual 313, 3) := dk_182 1 57 (dk_at dksX4_lastMoving_0 10 rfl rfl)
theorem dX4_lastMoving_13 : decode cX4_lastMoving 13 = .ok (.ifCond .ne 9, 3) := dk_154 0 9 (dk_at dksX4_lastMoving_0 13 rfl rfl)
theorem dX4_lastMoving_16 : decode cX4_lastMoving 16 = .ok (.iinc 1 (-1), 3) := dk_132 1 255 (dk_at dksX4_lastMoving_0 16 rfl rfl)
theorem dX4_lastMoving_19 : decode cX4_lastMoving 19 = .ok (.goto (-15), 3) := dk_167 255 241 (dk_at dksX4_lastMoving_0 19 rfl rfl)
theorem dX4_lastMoving_22 : decode cX4_lastMoving 22 = .ok (.iload_n 1, 1) := dk_27 (dk_at dksX4_lastMoving_0 22 rfl rfl)
theorem dX4_lastMoving_23 : decode cX4_lastMoving 23 = .ok (.ireturn, 1) := dk_172 (dk_at dksX4_lastMoving_0 23 rfl rfl)
abbrev cX4_stillFrames : ByteArray := prog_17_method_85_code
def yX4_stillFrames : MethodName := ⟨RX4, "stillFrames", "()I"⟩
def dkwX4_stillFrames_1 : List UInt8 := [182, 1, 57, 154, 0, 6, 132, 1, 1, 132, 2, 1, 167, 255, 234, 27, 172]
abbrev dktX4_stillFrames_1 : List UInt8 := dkwX4_stillFrames_1 ++ []
def dkwX4_stillFrames_0 : List UInt8 := [42, 3, 181, 0, 63, 42, 182, 1, 54, 3, 60, 4, 61, 28, 42, 182, 1, 60, 163, 0, 20, 42, 28]
abbrev dktX4_stillFrames_0 : List UInt8 := dkwX4_stillFrames_0 ++ dktX4_stillFrames_1
theorem dksX4_stillFrames_0 : cX4_stillFrames.data.toList.drop 0 = dktX4_stillFrames_0 := by decide +kernel
theorem dksX4_stillFrames_1 : cX4_stillFrames.data.toList.drop 23 = dktX4_stillFrames_1 := dk_seg dksX4_stillFrames_0 23 rfl rfl
theorem dX4_stillFrames_0 : decode cX4_stillFrames 0 = .ok (.aload_n 0, 1) := dk_42 (dk_at dksX4_stillFrames_0 0 rfl rfl)
theorem dX4_stillFrames_1 : decode cX4_stillFrames 1 = .ok (.iconst 0, 1) := dk_3 (dk_at dksX4_stillFrames_0 1 rfl rfl)
theorem dX4_stillFrames_2 : decode cX4_stillFrames 2 = .ok (.putfield 63, 3) := dk_181 0 63 (dk_at dksX4_stillFrames_0 2 rfl rfl)
theorem dX4_stillFrames_5 : decode cX4_stillFrames 5 = .ok (.aload_n 0, 1) := dk_42 (dk_at dksX4_stillFrames_0 5 rfl rfl)
theorem dX4_stillFrames_6 : decode cX4_stillFrames 6 = .ok (.invokevirtual 310, 3) := dk_182 1 54 (dk_at dksX4_stillFrames_0 6 rfl rfl)
theorem dX4_stillFrames_9 : decode cX4_stillFrames 9 = .ok (.iconst 0, 1) := dk_3 (dk_at dksX4_stillFrames_0 9 rfl rfl)
theorem dX4_stillFrames_10 : decode cX4_stillFrames 10 = .ok (.istore_n 1, 1) := dk_60 (dk_at dksX4_stillFrames_0 10 rfl rfl)
theorem dX4_stillFrames_11 : decode cX4_stillFrames 11 = .ok (.iconst 1, 1) := dk_4 (dk_at dksX4_stillFrames_0 11 rfl rfl)
theorem dX4_stillFrames_12 : decode cX4_stillFrames 12 = .ok (.istore_n 2, 1) := dk_61 (dk_at dksX4_stillFrames_0 12 rfl rfl)
theorem dX4_stillFrames_13 : decode cX4_stillFrames 13 = .ok (.iload_n 2, 1) := dk_28 (dk_at dksX4_stillFrames_0 13 rfl rfl)
theorem dX4_stillFrames_14 : decode cX4_stillFrames 14 = .ok (.aload_n 0, 1) := dk_42 (dk_at dksX4_stillFrames_0 14 rfl rfl)
theorem dX4_stillFrames_15 : decode cX4_stillFrames 15 = .ok (.invokevirtual 316, 3) := dk_182 1 60 (dk_at dksX4_stillFrames_0 15 rfl rfl)
theorem dX4_stillFrames_18 : decode cX4_stillFrames 18 = .ok (.if_icmp .gt 20, 3) := dk_163 0 20 (dk_at dksX4_stillFrames_0 18 rfl rfl)
theorem dX4_stillFrames_21 : decode cX4_stillFrames 21 = .ok (.aload_n 0, 1) := dk_42 (dk_at dksX4_stillFrames_0 21 rfl rfl)
theorem dX4_stillFrames_22 : decode cX4_stillFrames 22 = .ok (.iload_n 2, 1) := dk_28 (dk_at dksX4_stillFrames_0 22 rfl rfl)
theorem dX4_stillFrames_23 : decode cX4_stillFrames 23 = .ok (.invokevirtual 313, 3) := dk_182 1 57 (dk_at dksX4_stillFrames_1 0 rfl rfl)
theorem dX4_stillFrames_26 : decode cX4_stillFrames 26 = .ok (.ifCond .ne 6, 3) := dk_154 0 6 (dk_at dksX4_stillFrames_1 3 rfl rfl)
theorem dX4_stillFrames_29 : decode cX4_stillFrames 29 = .ok (.iinc 1 1, 3) := dk_132 1 1 (dk_at dksX4_stillFrames_1 6 rfl rfl)
theorem dX4_stillFrames_32 : decode cX4_stillFrames 32 = .ok (.iinc 2 1, 3) := dk_132 2 1 (dk_at dksX4_stillFrames_1 9 rfl rfl)
theorem dX4_stillFrames_35 : decode cX4_stillFrames 35 = .ok (.goto (-22), 3) := dk_167 255 234 (dk_at dksX4_stillFrames_1 12 rfl rfl)
theorem dX4_stillFrames_38 : decode cX4_stillFrames 38 = .ok (.iload_n 1, 1) := dk_27 (dk_at dksX4_stillFrames_1 15 rfl rfl)
theorem dX4_stillFrames_39 : decode cX4_stillFrames 39 = .ok (.ireturn, 1) := dk_172 (dk_at dksX4_stillFrames_1 16 rfl rfl)
abbrev cX4_travelled : ByteArray := prog_17_method_87_code
def yX4_travelled : MethodName := ⟨RX4, "travelled", "(I)I"⟩
def dkwX4_travelled_1 : List UInt8 := [182, 0, 98, 172]
abbrev dktX4_travelled_1 : List UInt8 := dkwX4_travelled_1 ++ []
def dkwX4_travelled_0 : List UInt8 := [42, 3, 181, 0, 63, 42, 27, 182, 0, 220, 153, 0, 11, 42, 27, 182, 1, 63, 167, 0, 8, 42, 4]
abbrev dktX4_travelled_0 : List UInt8 := dkwX4_travelled_0 ++ dktX4_travelled_1
theorem dksX4_travelled_0 : cX4_travelled.data.toList.drop 0 = dktX4_travelled_0 := by decide +kernel
theorem dksX4_travelled_1 : cX4_travelled.data.toList.drop 23 = dktX4_travelled_1 := dk_seg dksX4_travelled_0 23 rfl rfl
theorem dX4_travelled_0 : decode cX4_travelled 0 = .ok (.aload_n 0, 1) := dk_42 (dk_at dksX4_travelled_0 0 rfl rfl)
theorem dX4_travelled_1 : decode cX4_travelled 1 = .ok (.iconst 0, 1) := dk_3 (dk_at dksX4_travelled_0 1 rfl rfl)
theorem dX4_travelled_2 : decode cX4_travelled 2 = .ok (.putfield 63, 3) := dk_181 0 63 (dk_at dksX4_travelled_0 2 rfl rfl)
theorem dX4_travelled_5 : decode cX4_travelled 5 = .ok (.aload_n 0, 1) := dk_42 (dk_at dksX4_travelled_0 5 rfl rfl)
theorem dX4_travelled_6 : decode cX4_travelled 6 = .ok (.iload_n 1, 1) := dk_27 (dk_at dksX4_travelled_0 6 rfl rfl)
theorem dX4_travelled_7 : decode cX4_travelled 7 = .ok (.invokevirtual 220, 3) := dk_182 0 220 (dk_at dksX4_travelled_0 7 rfl rfl)
theorem dX4_travelled_10 : decode cX4_travelled 10 = .ok (.ifCond .eq 11, 3) := dk_153 0 11 (dk_at dksX4_travelled_0 10 rfl rfl)
theorem dX4_travelled_13 : decode cX4_travelled 13 = .ok (.aload_n 0, 1) := dk_42 (dk_at dksX4_travelled_0 13 rfl rfl)
theorem dX4_travelled_14 : decode cX4_travelled 14 = .ok (.iload_n 1, 1) := dk_27 (dk_at dksX4_travelled_0 14 rfl rfl)
theorem dX4_travelled_15 : decode cX4_travelled 15 = .ok (.invokevirtual 319, 3) := dk_182 1 63 (dk_at dksX4_travelled_0 15 rfl rfl)
theorem dX4_travelled_18 : decode cX4_travelled 18 = .ok (.goto 8, 3) := dk_167 0 8 (dk_at dksX4_travelled_0 18 rfl rfl)
theorem dX4_travelled_21 : decode cX4_travelled 21 = .ok (.aload_n 0, 1) := dk_42 (dk_at dksX4_travelled_0 21 rfl rfl)
theorem dX4_travelled_22 : decode cX4_travelled 22 = .ok (.iconst 1, 1) := dk_4 (dk_at dksX4_travelled_0 22 rfl rfl)
theorem dX4_travelled_23 : decode cX4_travelled 23 = .ok (.invokevirtual 98, 3) := dk_182 0 98 (dk_at dksX4_travelled_1 0 rfl rfl)
theorem dX4_travelled_26 : decode cX4_travelled 26 = .ok (.ireturn, 1) := dk_172 (dk_at dksX4_travelled_1 3 rfl rfl)
abbrev cX4_travelledBy : ByteArray := prog_17_method_86_code
def yX4_travelledBy : MethodName := ⟨RX4, "travelledBy", "(I)I"⟩
def dkwX4_travelledBy_1 : List UInt8 := [184, 0, 243, 96, 61, 132, 3, 1, 167, 255, 234, 28, 172]
abbrev dktX4_travelledBy_1 : List UInt8 := dkwX4_travelledBy_1 ++ []
def dkwX4_travelledBy_0 : List UInt8 := [42, 27, 182, 1, 39, 3, 61, 4, 62, 29, 17, 3, 232, 162, 0, 21, 28, 42, 27, 29, 182, 1, 51]
abbrev dktX4_travelledBy_0 : List UInt8 := dkwX4_travelledBy_0 ++ dktX4_travelledBy_1
theorem dksX4_travelledBy_0 : cX4_travelledBy.data.toList.drop 0 = dktX4_travelledBy_0 := by decide +kernel
theorem dksX4_travelledBy_1 : cX4_travelledBy.data.toList.drop 23 = dktX4_travelledBy_1 := dk_seg dksX4_travelledBy_0 23 rfl rfl
theorem dX4_travelledBy_0 : decode cX4_travelledBy 0 = .ok (.aload_n 0, 1) := dk_42 (dk_at dksX4_travelledBy_0 0 rfl rfl)
theorem dX4_travelledBy_1 : decode cX4_travelledBy 1 = .ok (.iload_n 1, 1) := dk_27 (dk_at dksX4_travelledBy_0 1 rfl rfl)
theorem dX4_travelledBy_2 : decode cX4_travelledBy 2 = .ok (.invokevirtual 295, 3) := dk_182 1 39 (dk_at dksX4_travelledBy_0 2 rfl rfl)
theorem dX4_travelledBy_5 : decode cX4_travelledBy 5 = .ok (.iconst 0, 1) := dk_3 (dk_at dksX4_travelledBy_0 5 rfl rfl)
theorem dX4_travelledBy_6 : decode cX4_travelledBy 6 = .ok (.istore_n 2, 1) := dk_61 (dk_at dksX4_travelledBy_0 6 rfl rfl)
theorem dX4_travelledBy_7 : decode cX4_travelledBy 7 = .ok (.iconst 1, 1) := dk_4 (dk_at dksX4_travelledBy_0 7 rfl rfl)
theorem dX4_travelledBy_8 : decode cX4_travelledBy 8 = .ok (.istore_n 3, 1) := dk_62 (dk_at dksX4_travelledBy_0 8 rfl rfl)
theorem dX4_travelledBy_9 : decode cX4_travelledBy 9 = .ok (.iload_n 3, 1) := dk_29 (dk_at dksX4_travelledBy_0 9 rfl rfl)
theorem dX4_travelledBy_10 : decode cX4_travelledBy 10 = .ok (.sipush 1000, 3) := dk_17 3 232 (dk_at dksX4_travelledBy_0 10 rfl rfl)
theorem dX4_travelledBy_13 : decode cX4_travelledBy 13 = .ok (.if_icmp .ge 21, 3) := dk_162 0 21 (dk_at dksX4_travelledBy_0 13 rfl rfl)
theorem dX4_travelledBy_16 : decode cX4_travelledBy 16 = .ok (.iload_n 2, 1) := dk_28 (dk_at dksX4_travelledBy_0 16 rfl rfl)
theorem dX4_travelledBy_17 : decode cX4_travelledBy 17 = .ok (.aload_n 0, 1) := dk_42 (dk_at dksX4_travelledBy_0 17 rfl rfl)
theorem dX4_travelledBy_18 : decode cX4_travelledBy 18 = .ok (.iload_n 1, 1) := dk_27 (dk_at dksX4_travelledBy_0 18 rfl rfl)
theorem dX4_travelledBy_19 : decode cX4_travelledBy 19 = .ok (.iload_n 3, 1) := dk_29 (dk_at dksX4_travelledBy_0 19 rfl rfl)
theorem dX4_travelledBy_20 : decode cX4_travelledBy 20 = .ok (.invokevirtual 307, 3) := dk_182 1 51 (dk_at dksX4_travelledBy_0 20 rfl rfl)
theorem dX4_travelledBy_23 : decode cX4_travelledBy 23 = .ok (.invokestatic 243, 3) := dk_184 0 243 (dk_at dksX4_travelledBy_1 0 rfl rfl)
theorem dX4_travelledBy_26 : decode cX4_travelledBy 26 = .ok (.iadd, 1) := dk_96 (dk_at dksX4_travelledBy_1 3 rfl rfl)
theorem dX4_travelledBy_27 : decode cX4_travelledBy 27 = .ok (.istore_n 2, 1) := dk_61 (dk_at dksX4_travelledBy_1 4 rfl rfl)
theorem dX4_travelledBy_28 : decode cX4_travelledBy 28 = .ok (.iinc 3 1, 3) := dk_132 3 1 (dk_at dksX4_travelledBy_1 5 rfl rfl)
theorem dX4_travelledBy_31 : decode cX4_travelledBy 31 = .ok (.goto (-22), 3) := dk_167 255 234 (dk_at dksX4_travelledBy_1 8 rfl rfl)
theorem dX4_travelledBy_34 : decode cX4_travelledBy 34 = .ok (.iload_n 2, 1) := dk_28 (dk_at dksX4_travelledBy_1 11 rfl rfl)
theorem dX4_travelledBy_35 : decode cX4_travelledBy 35 = .ok (.ireturn, 1) := dk_172 (dk_at dksX4_travelledBy_1 12 rfl rfl)
abbrev cX4_fastest : ByteArray := prog_17_method_88_code
def yX4_fastest : MethodName := ⟨RX4, "fastest", "(I)I"⟩
def dkwX4_fastest_2 : List UInt8 := [28, 164, 0, 8, 21, 4, 167, 0, 4, 28, 61, 132, 3, 1, 167, 255, 222, 28, 172]
abbrev dktX4_fastest_2 : List UInt8 := dkwX4_fastest_2 ++ []
def dkwX4_fastest_1 : List UInt8 := [3, 61, 4, 62, 29, 17, 3, 232, 162, 0, 33, 42, 27, 29, 182, 1, 51, 184, 0, 243, 54, 4, 21, 4]
abbrev dktX4_fastest_1 : List UInt8 := dkwX4_fastest_1 ++ dktX4_fastest_2
def dkwX4_fastest_0 : List UInt8 := [42, 3, 181, 0, 63, 42, 27, 182, 0, 220, 154, 0, 9, 42, 4, 182, 0, 98, 172, 42, 27, 182, 1, 39]
abbrev dktX4_fastest_0 : List UInt8 := dkwX4_fastest_0 ++ dktX4_fastest_1
theorem dksX4_fastest_0 : cX4_fastest.data.toList.drop 0 = dktX4_fastest_0 := by decide +kernel
theorem dksX4_fastest_1 : cX4_fastest.data.toList.drop 24 = dktX4_fastest_1 := dk_seg dksX4_fastest_0 24 rfl rfl
theorem dksX4_fastest_2 : cX4_fastest.data.toList.drop 48 = dktX4_fastest_2 := dk_seg dksX4_fastest_1 24 rfl rfl
theorem dX4_fastest_0 : decode cX4_fastest 0 = .ok (.aload_n 0, 1) := dk_42 (dk_at dksX4_fastest_0 0 rfl rfl)
theorem dX4_fastest_1 : decode cX4_fastest 1 = .ok (.iconst 0, 1) := dk_3 (dk_at dksX4_fastest_0 1 rfl rfl)
theorem dX4_fastest_2 : decode cX4_fastest 2 = .ok (.putfield 63, 3) := dk_181 0 63 (dk_at dksX4_fastest_0 2 rfl rfl)
theorem dX4_fastest_5 : decode cX4_fastest 5 = .ok (.aload_n 0, 1) := dk_42 (dk_at dksX4_fastest_0 5 rfl rfl)
theorem dX4_fastest_6 : decode cX4_fastest 6 = .ok (.iload_n 1, 1) := dk_27 (dk_at dksX4_fastest_0 6 rfl rfl)
theorem dX4_fastest_7 : decode cX4_fastest 7 = .ok (.invokevirtual 220, 3) := dk_182 0 220 (dk_at dksX4_fastest_0 7 rfl rfl)
theorem dX4_fastest_10 : decode cX4_fastest 10 = .ok (.ifCond .ne 9, 3) := dk_154 0 9 (dk_at dksX4_fastest_0 10 rfl rfl)
theorem dX4_fastest_13 : decode cX4_fastest 13 = .ok (.aload_n 0, 1) := dk_42 (dk_at dksX4_fastest_0 13 rfl rfl)
theorem dX4_fastest_14 : decode cX4_fastest 14 = .ok (.iconst 1, 1) := dk_4 (dk_at dksX4_fastest_0 14 rfl rfl)
theorem dX4_fastest_15 : decode cX4_fastest 15 = .ok (.invokevirtual 98, 3) := dk_182 0 98 (dk_at dksX4_fastest_0 15 rfl rfl)
theorem dX4_fastest_18 : decode cX4_fastest 18 = .ok (.ireturn, 1) := dk_172 (dk_at dksX4_fastest_0 18 rfl rfl)
theorem dX4_fastest_19 : decode cX4_fastest 19 = .ok (.aload_n 0, 1) := dk_42 (dk_at dksX4_fastest_0 19 rfl rfl)
theorem dX4_fastest_20 : decode cX4_fastest 20 = .ok (.iload_n 1, 1) := dk_27 (dk_at dksX4_fastest_0 20 rfl rfl)
theorem dX4_fastest_21 : decode cX4_fastest 21 = .ok (.invokevirtual 295, 3) := dk_182 1 39 (dk_at dksX4_fastest_0 21 rfl rfl)
theorem dX4_fastest_24 : decode cX4_fastest 24 = .ok (.iconst 0, 1) := dk_3 (dk_at dksX4_fastest_1 0 rfl rfl)
theorem dX4_fastest_25 : decode cX4_fastest 25 = .ok (.istore_n 2, 1) := dk_61 (dk_at dksX4_fastest_1 1 rfl rfl)
theorem dX4_fastest_26 : decode cX4_fastest 26 = .ok (.iconst 1, 1) := dk_4 (dk_at dksX4_fastest_1 2 rfl rfl)
theorem dX4_fastest_27 : decode cX4_fastest 27 = .ok (.istore_n 3, 1) := dk_62 (dk_at dksX4_fastest_1 3 rfl rfl)
theorem dX4_fastest_28 : decode cX4_fastest 28 = .ok (.iload_n 3, 1) := dk_29 (dk_at dksX4_fastest_1 4 rfl rfl)
theorem dX4_fastest_29 : decode cX4_fastest 29 = .ok (.sipush 1000, 3) := dk_17 3 232 (dk_at dksX4_fastest_1 5 rfl rfl)
theorem dX4_fastest_32 : decode cX4_fastest 32 = .ok (.if_icmp .ge 33, 3) := dk_162 0 33 (dk_at dksX4_fastest_1 8 rfl rfl)
theorem dX4_fastest_35 : decode cX4_fastest 35 = .ok (.aload_n 0, 1) := dk_42 (dk_at dksX4_fastest_1 11 rfl rfl)
theorem dX4_fastest_36 : decode cX4_fastest 36 = .ok (.iload_n 1, 1) := dk_27 (dk_at dksX4_fastest_1 12 rfl rfl)
theorem dX4_fastest_37 : decode cX4_fastest 37 = .ok (.iload_n 3, 1) := dk_29 (dk_at dksX4_fastest_1 13 rfl rfl)
theorem dX4_fastest_38 : decode cX4_fastest 38 = .ok (.invokevirtual 307, 3) := dk_182 1 51 (dk_at dksX4_fastest_1 14 rfl rfl)
theorem dX4_fastest_41 : decode cX4_fastest 41 = .ok (.invokestatic 243, 3) := dk_184 0 243 (dk_at dksX4_fastest_1 17 rfl rfl)
theorem dX4_fastest_44 : decode cX4_fastest 44 = .ok (.istore 4, 2) := dk_54 4 (dk_at dksX4_fastest_1 20 rfl rfl)
theorem dX4_fastest_46 : decode cX4_fastest 46 = .ok (.iload 4, 2) := dk_21 4 (dk_at dksX4_fastest_1 22 rfl rfl)
theorem dX4_fastest_48 : decode cX4_fastest 48 = .ok (.iload_n 2, 1) := dk_28 (dk_at dksX4_fastest_2 0 rfl rfl)
theorem dX4_fastest_49 : decode cX4_fastest 49 = .ok (.if_icmp .le 8, 3) := dk_164 0 8 (dk_at dksX4_fastest_2 1 rfl rfl)
theorem dX4_fastest_52 : decode cX4_fastest 52 = .ok (.iload 4, 2) := dk_21 4 (dk_at dksX4_fastest_2 4 rfl rfl)
theorem dX4_fastest_54 : decode cX4_fastest 54 = .ok (.goto 4, 3) := dk_167 0 4 (dk_at dksX4_fastest_2 6 rfl rfl)
theorem dX4_fastest_57 : decode cX4_fastest 57 = .ok (.iload_n 2, 1) := dk_28 (dk_at dksX4_fastest_2 9 rfl rfl)
theorem dX4_fastest_58 : decode cX4_fastest 58 = .ok (.istore_n 2, 1) := dk_61 (dk_at dksX4_fastest_2 10 rfl rfl)
theorem dX4_fastest_59 : decode cX4_fastest 59 = .ok (.iinc 3 1, 3) := dk_132 3 1 (dk_at dksX4_fastest_2 11 rfl rfl)
theorem dX4_fastest_62 : decode cX4_fastest 62 = .ok (.goto (-34), 3) := dk_167 255 222 (dk_at dksX4_fastest_2 14 rfl rfl)
theorem dX4_fastest_65 : decode cX4_fastest 65 = .ok (.iload_n 2, 1) := dk_28 (dk_at dksX4_fastest_2 17 rfl rfl)
theorem dX4_fastest_66 : decode cX4_fastest 66 = .ok (.ireturn, 1) := dk_172 (dk_at dksX4_fastest_2 18 rfl rfl)
abbrev cX4_meanSpeed : ByteArray := prog_17_method_89_code
def yX4_meanSpeed : MethodName := ⟨RX4, "meanSpeed", "(I)D"⟩
def dkwX4_meanSpeed_3 : List UInt8 := [111, 175]
abbrev dktX4_meanSpeed_3 : List UInt8 := dkwX4_meanSpeed_3 ++ []
def dkwX4_meanSpeed_2 : List UInt8 := [153, 0, 6, 132, 3, 1, 132, 4, 1, 167, 255, 232, 29, 154, 0, 7, 14, 167, 0, 8, 28, 135, 29, 135]
abbrev dktX4_meanSpeed_2 : List UInt8 := dkwX4_meanSpeed_2 ++ dktX4_meanSpeed_3
def dkwX4_meanSpeed_1 : List UInt8 := [182, 1, 63, 61, 3, 62, 4, 54, 4, 21, 4, 17, 3, 232, 162, 0, 22, 42, 27, 21, 4, 182, 1, 51]
abbrev dktX4_meanSpeed_1 : List UInt8 := dkwX4_meanSpeed_1 ++ dktX4_meanSpeed_2
def dkwX4_meanSpeed_0 : List UInt8 := [42, 3, 181, 0, 63, 42, 27, 182, 0, 220, 154, 0, 10, 42, 4, 182, 0, 98, 135, 175, 42, 27]
abbrev dktX4_meanSpeed_0 : List UInt8 := dkwX4_meanSpeed_0 ++ dktX4_meanSpeed_1
theorem dksX4_meanSpeed_0 : cX4_meanSpeed.data.toList.drop 0 = dktX4_meanSpeed_0 := by decide +kernel
theorem dksX4_meanSpeed_1 : cX4_meanSpeed.data.toList.drop 22 = dktX4_meanSpeed_1 := dk_seg dksX4_meanSpeed_0 22 rfl rfl
theorem dksX4_meanSpeed_2 : cX4_meanSpeed.data.toList.drop 46 = dktX4_meanSpeed_2 := dk_seg dksX4_meanSpeed_1 24 rfl rfl
theorem dksX4_meanSpeed_3 : cX4_meanSpeed.data.toList.drop 70 = dktX4_meanSpeed_3 := dk_seg dksX4_meanSpeed_2 24 rfl rfl
theorem dX4_meanSpeed_0 : decode cX4_meanSpeed 0 = .ok (.aload_n 0, 1) := dk_42 (dk_at dksX4_meanSpeed_0 0 rfl rfl)
theorem dX4_meanSpeed_1 : decode cX4_meanSpeed 1 = .ok (.iconst 0, 1) := dk_3 (dk_at dksX4_meanSpeed_0 1 rfl rfl)
theorem dX4_meanSpeed_2 : decode cX4_meanSpeed 2 = .ok (.putfield 63, 3) := dk_181 0 63 (dk_at dksX4_meanSpeed_0 2 rfl rfl)
theorem dX4_meanSpeed_5 : decode cX4_meanSpeed 5 = .ok (.aload_n 0, 1) := dk_42 (dk_at dksX4_meanSpeed_0 5 rfl rfl)
theorem dX4_meanSpeed_6 : decode cX4_meanSpeed 6 = .ok (.iload_n 1, 1) := dk_27 (dk_at dksX4_meanSpeed_0 6 rfl rfl)
theorem dX4_meanSpeed_7 : decode cX4_meanSpeed 7 = .ok (.invokevirtual 220, 3) := dk_182 0 220 (dk_at dksX4_meanSpeed_0 7 rfl rfl)
theorem dX4_meanSpeed_10 : decode cX4_meanSpeed 10 = .ok (.ifCond .ne 10, 3) := dk_154 0 10 (dk_at dksX4_meanSpeed_0 10 rfl rfl)
theorem dX4_meanSpeed_13 : decode cX4_meanSpeed 13 = .ok (.aload_n 0, 1) := dk_42 (dk_at dksX4_meanSpeed_0 13 rfl rfl)
theorem dX4_meanSpeed_14 : decode cX4_meanSpeed 14 = .ok (.iconst 1, 1) := dk_4 (dk_at dksX4_meanSpeed_0 14 rfl rfl)
theorem dX4_meanSpeed_15 : decode cX4_meanSpeed 15 = .ok (.invokevirtual 98, 3) := dk_182 0 98 (dk_at dksX4_meanSpeed_0 15 rfl rfl)
theorem dX4_meanSpeed_18 : decode cX4_meanSpeed 18 = .ok (.i2d, 1) := dk_135 (dk_at dksX4_meanSpeed_0 18 rfl rfl)
theorem dX4_meanSpeed_19 : decode cX4_meanSpeed 19 = .ok (.dreturn, 1) := dk_175 (dk_at dksX4_meanSpeed_0 19 rfl rfl)
theorem dX4_meanSpeed_20 : decode cX4_meanSpeed 20 = .ok (.aload_n 0, 1) := dk_42 (dk_at dksX4_meanSpeed_0 20 rfl rfl)
theorem dX4_meanSpeed_21 : decode cX4_meanSpeed 21 = .ok (.iload_n 1, 1) := dk_27 (dk_at dksX4_meanSpeed_0 21 rfl rfl)
theorem dX4_meanSpeed_22 : decode cX4_meanSpeed 22 = .ok (.invokevirtual 319, 3) := dk_182 1 63 (dk_at dksX4_meanSpeed_1 0 rfl rfl)
theorem dX4_meanSpeed_25 : decode cX4_meanSpeed 25 = .ok (.istore_n 2, 1) := dk_61 (dk_at dksX4_meanSpeed_1 3 rfl rfl)
theorem dX4_meanSpeed_26 : decode cX4_meanSpeed 26 = .ok (.iconst 0, 1) := dk_3 (dk_at dksX4_meanSpeed_1 4 rfl rfl)
theorem dX4_meanSpeed_27 : decode cX4_meanSpeed 27 = .ok (.istore_n 3, 1) := dk_62 (dk_at dksX4_meanSpeed_1 5 rfl rfl)
theorem dX4_meanSpeed_28 : decode cX4_meanSpeed 28 = .ok (.iconst 1, 1) := dk_4 (dk_at dksX4_meanSpeed_1 6 rfl rfl)
theorem dX4_meanSpeed_29 : decode cX4_meanSpeed 29 = .ok (.istore 4, 2) := dk_54 4 (dk_at dksX4_meanSpeed_1 7 rfl rfl)
theorem dX4_meanSpeed_31 : decode cX4_meanSpeed 31 = .ok (.iload 4, 2) := dk_21 4 (dk_at dksX4_meanSpeed_1 9 rfl rfl)
theorem dX4_meanSpeed_33 : decode cX4_meanSpeed 33 = .ok (.sipush 1000, 3) := dk_17 3 232 (dk_at dksX4_meanSpeed_1 11 rfl rfl)
theorem dX4_meanSpeed_36 : decode cX4_meanSpeed 36 = .ok (.if_icmp .ge 22, 3) := dk_162 0 22 (dk_at dksX4_meanSpeed_1 14 rfl rfl)
theorem dX4_meanSpeed_39 : decode cX4_meanSpeed 39 = .ok (.aload_n 0, 1) := dk_42 (dk_at dksX4_meanSpeed_1 17 rfl rfl)
theorem dX4_meanSpeed_40 : decode cX4_meanSpeed 40 = .ok (.iload_n 1, 1) := dk_27 (dk_at dksX4_meanSpeed_1 18 rfl rfl)
theorem dX4_meanSpeed_41 : decode cX4_meanSpeed 41 = .ok (.iload 4, 2) := dk_21 4 (dk_at dksX4_meanSpeed_1 19 rfl rfl)
theorem dX4_meanSpeed_43 : decode cX4_meanSpeed 43 = .ok (.invokevirtual 307, 3) := dk_182 1 51 (dk_at dksX4_meanSpeed_1 21 rfl rfl)
theorem dX4_meanSpeed_46 : decode cX4_meanSpeed 46 = .ok (.ifCond .eq 6, 3) := dk_153 0 6 (dk_at dksX4_meanSpeed_2 0 rfl rfl)
theorem dX4_meanSpeed_49 : decode cX4_meanSpeed 49 = .ok (.iinc 3 1, 3) := dk_132 3 1 (dk_at dksX4_meanSpeed_2 3 rfl rfl)
theorem dX4_meanSpeed_52 : decode cX4_meanSpeed 52 = .ok (.iinc 4 1, 3) := dk_132 4 1 (dk_at dksX4_meanSpeed_2 6 rfl rfl)
theorem dX4_meanSpeed_55 : decode cX4_meanSpeed 55 = .ok (.goto (-24), 3) := dk_167 255 232 (dk_at dksX4_meanSpeed_2 9 rfl rfl)
theorem dX4_meanSpeed_58 : decode cX4_meanSpeed 58 = .ok (.iload_n 3, 1) := dk_29 (dk_at dksX4_meanSpeed_2 12 rfl rfl)
theorem dX4_meanSpeed_59 : decode cX4_meanSpeed 59 = .ok (.ifCond .ne 7, 3) := dk_154 0 7 (dk_at dksX4_meanSpeed_2 13 rfl rfl)
theorem dX4_meanSpeed_62 : decode cX4_meanSpeed 62 = .ok (.dconst 0, 1) := dk_14 (dk_at dksX4_meanSpeed_2 16 rfl rfl)
theorem dX4_meanSpeed_63 : decode cX4_meanSpeed 63 = .ok (.goto 8, 3) := dk_167 0 8 (dk_at dksX4_meanSpeed_2 17 rfl rfl)
theorem dX4_meanSpeed_66 : decode cX4_meanSpeed 66 = .ok (.iload_n 2, 1) := dk_28 (dk_at dksX4_meanSpeed_2 20 rfl rfl)
theorem dX4_meanSpeed_67 : decode cX4_meanSpeed 67 = .ok (.i2d, 1) := dk_135 (dk_at dksX4_meanSpeed_2 21 rfl rfl)
theorem dX4_meanSpeed_68 : decode cX4_meanSpeed 68 = .ok (.iload_n 3, 1) := dk_29 (dk_at dksX4_meanSpeed_2 22 rfl rfl)
theorem dX4_meanSpeed_69 : decode cX4_meanSpeed 69 = .ok (.i2d, 1) := dk_135 (dk_at dksX4_meanSpeed_2 23 rfl rfl)
theorem dX4_meanSpeed_70 : decode cX4_meanSpeed 70 = .ok (.ddiv, 1) := dk_111 (dk_at dksX4_meanSpeed_3 0 rfl rfl)
theorem dX4_meanSpeed_71 : decode cX4_meanSpeed 71 = .ok (.dreturn, 1) := dk_175 (dk_at dksX4_meanSpeed_3 1 rfl rfl)
abbrev cX4_walls : ByteArray := prog_17_method_92_code
def yX4_walls : MethodName := ⟨RX4, "walls", "(I)I"⟩
def dkwX4_walls_1 : List UInt8 := [182, 1, 72, 172]
abbrev dktX4_walls_1 : List UInt8 := dkwX4_walls_1 ++ []
def dkwX4_walls_0 : List UInt8 := [42, 3, 181, 0, 63, 27, 184, 1, 45, 154, 0, 9, 42, 4, 182, 0, 98, 172, 42, 182, 1, 54, 42, 27]
abbrev dktX4_walls_0 : List UInt8 := dkwX4_walls_0 ++ dktX4_walls_1
theorem dksX4_walls_0 : cX4_walls.data.toList.drop 0 = dktX4_walls_0 := by decide +kernel
theorem dksX4_walls_1 : cX4_walls.data.toList.drop 24 = dktX4_walls_1 := dk_seg dksX4_walls_0 24 rfl rfl
theorem dX4_walls_0 : decode cX4_walls 0 = .ok (.aload_n 0, 1) := dk_42 (dk_at dksX4_walls_0 0 rfl rfl)
theorem dX4_walls_1 : decode cX4_walls 1 = .ok (.iconst 0, 1) := dk_3 (dk_at dksX4_walls_0 1 rfl rfl)
theorem dX4_walls_2 : decode cX4_walls 2 = .ok (.putfield 63, 3) := dk_181 0 63 (dk_at dksX4_walls_0 2 rfl rfl)
theorem dX4_walls_5 : decode cX4_walls 5 = .ok (.iload_n 1, 1) := dk_27 (dk_at dksX4_walls_0 5 rfl rfl)
theorem dX4_walls_6 : decode cX4_walls 6 = .ok (.invokestatic 301, 3) := dk_184 1 45 (dk_at dksX4_walls_0 6 rfl rfl)
theorem dX4_walls_9 : decode cX4_walls 9 = .ok (.ifCond .ne 9, 3) := dk_154 0 9 (dk_at dksX4_walls_0 9 rfl rfl)
theorem dX4_walls_12 : decode cX4_walls 12 = .ok (.aload_n 0, 1) := dk_42 (dk_at dksX4_walls_0 12 rfl rfl)
theorem dX4_walls_13 : decode cX4_walls 13 = .ok (.iconst 1, 1) := dk_4 (dk_at dksX4_walls_0 13 rfl rfl)
theorem dX4_walls_14 : decode cX4_walls 14 = .ok (.invokevirtual 98, 3) := dk_182 0 98 (dk_at dksX4_walls_0 14 rfl rfl)
theorem dX4_walls_17 : decode cX4_walls 17 = .ok (.ireturn, 1) := dk_172 (dk_at dksX4_walls_0 17 rfl rfl)
theorem dX4_walls_18 : decode cX4_walls 18 = .ok (.aload_n 0, 1) := dk_42 (dk_at dksX4_walls_0 18 rfl rfl)
theorem dX4_walls_19 : decode cX4_walls 19 = .ok (.invokevirtual 310, 3) := dk_182 1 54 (dk_at dksX4_walls_0 19 rfl rfl)
theorem dX4_walls_22 : decode cX4_walls 22 = .ok (.aload_n 0, 1) := dk_42 (dk_at dksX4_walls_0 22 rfl rfl)
theorem dX4_walls_23 : decode cX4_walls 23 = .ok (.iload_n 1, 1) := dk_27 (dk_at dksX4_walls_0 23 rfl rfl)
theorem dX4_walls_24 : decode cX4_walls 24 = .ok (.invokevirtual 328, 3) := dk_182 1 72 (dk_at dksX4_walls_1 0 rfl rfl)
theorem dX4_walls_27 : decode cX4_walls 27 = .ok (.ireturn, 1) := dk_172 (dk_at dksX4_walls_1 3 rfl rfl)
abbrev cX4_wallsAt : ByteArray := prog_17_method_91_code
def yX4_wallsAt : MethodName := ⟨RX4, "wallsAt", "(I)I"⟩
def dkwX4_wallsAt_1 : List UInt8 := [28, 4, 29, 120, 128, 61, 132, 3, 1, 167, 255, 227, 28, 172]
abbrev dktX4_wallsAt_1 : List UInt8 := dkwX4_wallsAt_1 ++ []
def dkwX4_wallsAt_0 : List UInt8 := [3, 61, 3, 62, 29, 42, 17, 0, 149, 182, 0, 69, 162, 0, 24, 42, 29, 27, 182, 1, 69, 153, 0, 9]
abbrev dktX4_wallsAt_0 : List UInt8 := dkwX4_wallsAt_0 ++ dktX4_wallsAt_1
theorem dksX4_wallsAt_0 : cX4_wallsAt.data.toList.drop 0 = dktX4_wallsAt_0 := by decide +kernel
theorem dksX4_wallsAt_1 : cX4_wallsAt.data.toList.drop 24 = dktX4_wallsAt_1 := dk_seg dksX4_wallsAt_0 24 rfl rfl
theorem dX4_wallsAt_0 : decode cX4_wallsAt 0 = .ok (.iconst 0, 1) := dk_3 (dk_at dksX4_wallsAt_0 0 rfl rfl)
theorem dX4_wallsAt_1 : decode cX4_wallsAt 1 = .ok (.istore_n 2, 1) := dk_61 (dk_at dksX4_wallsAt_0 1 rfl rfl)
theorem dX4_wallsAt_2 : decode cX4_wallsAt 2 = .ok (.iconst 0, 1) := dk_3 (dk_at dksX4_wallsAt_0 2 rfl rfl)
theorem dX4_wallsAt_3 : decode cX4_wallsAt 3 = .ok (.istore_n 3, 1) := dk_62 (dk_at dksX4_wallsAt_0 3 rfl rfl)
theorem dX4_wallsAt_4 : decode cX4_wallsAt 4 = .ok (.iload_n 3, 1) := dk_29 (dk_at dksX4_wallsAt_0 4 rfl rfl)
theorem dX4_wallsAt_5 : decode cX4_wallsAt 5 = .ok (.aload_n 0, 1) := dk_42 (dk_at dksX4_wallsAt_0 5 rfl rfl)
theorem dX4_wallsAt_6 : decode cX4_wallsAt 6 = .ok (.sipush 149, 3) := dk_17 0 149 (dk_at dksX4_wallsAt_0 6 rfl rfl)
theorem dX4_wallsAt_9 : decode cX4_wallsAt 9 = .ok (.invokevirtual 69, 3) := dk_182 0 69 (dk_at dksX4_wallsAt_0 9 rfl rfl)
theorem dX4_wallsAt_12 : decode cX4_wallsAt 12 = .ok (.if_icmp .ge 24, 3) := dk_162 0 24 (dk_at dksX4_wallsAt_0 12 rfl rfl)
theorem dX4_wallsAt_15 : decode cX4_wallsAt 15 = .ok (.aload_n 0, 1) := dk_42 (dk_at dksX4_wallsAt_0 15 rfl rfl)
theorem dX4_wallsAt_16 : decode cX4_wallsAt 16 = .ok (.iload_n 3, 1) := dk_29 (dk_at dksX4_wallsAt_0 16 rfl rfl)
theorem dX4_wallsAt_17 : decode cX4_wallsAt 17 = .ok (.iload_n 1, 1) := dk_27 (dk_at dksX4_wallsAt_0 17 rfl rfl)
theorem dX4_wallsAt_18 : decode cX4_wallsAt 18 = .ok (.invokevirtual 325, 3) := dk_182 1 69 (dk_at dksX4_wallsAt_0 18 rfl rfl)
theorem dX4_wallsAt_21 : decode cX4_wallsAt 21 = .ok (.ifCond .eq 9, 3) := dk_153 0 9 (dk_at dksX4_wallsAt_0 21 rfl rfl)
theorem dX4_wallsAt_24 : decode cX4_wallsAt 24 = .ok (.iload_n 2, 1) := dk_28 (dk_at dksX4_wallsAt_1 0 rfl rfl)
theorem dX4_wallsAt_25 : decode cX4_wallsAt 25 = .ok (.iconst 1, 1) := dk_4 (dk_at dksX4_wallsAt_1 1 rfl rfl)
theorem dX4_wallsAt_26 : decode cX4_wallsAt 26 = .ok (.iload_n 3, 1) := dk_29 (dk_at dksX4_wallsAt_1 2 rfl rfl)
theorem dX4_wallsAt_27 : decode cX4_wallsAt 27 = .ok (.ishl, 1) := dk_120 (dk_at dksX4_wallsAt_1 3 rfl rfl)
theorem dX4_wallsAt_28 : decode cX4_wallsAt 28 = .ok (.ior, 1) := dk_128 (dk_at dksX4_wallsAt_1 4 rfl rfl)
theorem dX4_wallsAt_29 : decode cX4_wallsAt 29 = .ok (.istore_n 2, 1) := dk_61 (dk_at dksX4_wallsAt_1 5 rfl rfl)
theorem dX4_wallsAt_30 : decode cX4_wallsAt 30 = .ok (.iinc 3 1, 3) := dk_132 3 1 (dk_at dksX4_wallsAt_1 6 rfl rfl)
theorem dX4_wallsAt_33 : decode cX4_wallsAt 33 = .ok (.goto (-29), 3) := dk_167 255 227 (dk_at dksX4_wallsAt_1 9 rfl rfl)
theorem dX4_wallsAt_36 : decode cX4_wallsAt 36 = .ok (.iload_n 2, 1) := dk_28 (dk_at dksX4_wallsAt_1 12 rfl rfl)
theorem dX4_wallsAt_37 : decode cX4_wallsAt 37 = .ok (.ireturn, 1) := dk_172 (dk_at dksX4_wallsAt_1 13 rfl rfl)
abbrev cX4_isInside : ByteArray := prog_17_method_90_code
def yX4_isInside : MethodName := ⟨RX4, "isInside", "(II)Z"⟩
def dkwX4_isInside_2 : List UInt8 := [132, 3, 3, 167, 255, 208, 4, 172]
abbrev dktX4_isInside_2 : List UInt8 := dkwX4_isInside_2 ++ []
def dkwX4_isInside_1 : List UInt8 := [27, 29, 4, 96, 182, 1, 66, 42, 27, 29, 5, 96, 182, 1, 66, 184, 0, 84, 154, 0, 5, 3, 172]
abbrev dktX4_isInside_1 : List UInt8 := dkwX4_isInside_1 ++ dktX4_isInside_2
def dkwX4_isInside_0 : List UInt8 := [3, 62, 29, 16, 6, 162, 0, 48, 42, 42, 27, 29, 182, 1, 66, 28, 182, 1, 42, 54, 4, 21, 4, 42]
abbrev dktX4_isInside_0 : List UInt8 := dkwX4_isInside_0 ++ dktX4_isInside_1
theorem dksX4_isInside_0 : cX4_isInside.data.toList.drop 0 = dktX4_isInside_0 := by decide +kernel
theorem dksX4_isInside_1 : cX4_isInside.data.toList.drop 24 = dktX4_isInside_1 := dk_seg dksX4_isInside_0 24 rfl rfl
theorem dksX4_isInside_2 : cX4_isInside.data.toList.drop 47 = dktX4_isInside_2 := dk_seg dksX4_isInside_1 23 rfl rfl
theorem dX4_isInside_0 : decode cX4_isInside 0 = .ok (.iconst 0, 1) := dk_3 (dk_at dksX4_isInside_0 0 rfl rfl)
theorem dX4_isInside_1 : decode cX4_isInside 1 = .ok (.istore_n 3, 1) := dk_62 (dk_at dksX4_isInside_0 1 rfl rfl)
theorem dX4_isInside_2 : decode cX4_isInside 2 = .ok (.iload_n 3, 1) := dk_29 (dk_at dksX4_isInside_0 2 rfl rfl)
theorem dX4_isInside_3 : decode cX4_isInside 3 = .ok (.bipush 6, 2) := dk_16 6 (dk_at dksX4_isInside_0 3 rfl rfl)
theorem dX4_isInside_5 : decode cX4_isInside 5 = .ok (.if_icmp .ge 48, 3) := dk_162 0 48 (dk_at dksX4_isInside_0 5 rfl rfl)
theorem dX4_isInside_8 : decode cX4_isInside 8 = .ok (.aload_n 0, 1) := dk_42 (dk_at dksX4_isInside_0 8 rfl rfl)
theorem dX4_isInside_9 : decode cX4_isInside 9 = .ok (.aload_n 0, 1) := dk_42 (dk_at dksX4_isInside_0 9 rfl rfl)
theorem dX4_isInside_10 : decode cX4_isInside 10 = .ok (.iload_n 1, 1) := dk_27 (dk_at dksX4_isInside_0 10 rfl rfl)
theorem dX4_isInside_11 : decode cX4_isInside 11 = .ok (.iload_n 3, 1) := dk_29 (dk_at dksX4_isInside_0 11 rfl rfl)
theorem dX4_isInside_12 : decode cX4_isInside 12 = .ok (.invokevirtual 322, 3) := dk_182 1 66 (dk_at dksX4_isInside_0 12 rfl rfl)
theorem dX4_isInside_15 : decode cX4_isInside 15 = .ok (.iload_n 2, 1) := dk_28 (dk_at dksX4_isInside_0 15 rfl rfl)
theorem dX4_isInside_16 : decode cX4_isInside 16 = .ok (.invokevirtual 298, 3) := dk_182 1 42 (dk_at dksX4_isInside_0 16 rfl rfl)
theorem dX4_isInside_19 : decode cX4_isInside 19 = .ok (.istore 4, 2) := dk_54 4 (dk_at dksX4_isInside_0 19 rfl rfl)
theorem dX4_isInside_21 : decode cX4_isInside 21 = .ok (.iload 4, 2) := dk_21 4 (dk_at dksX4_isInside_0 21 rfl rfl)
theorem dX4_isInside_23 : decode cX4_isInside 23 = .ok (.aload_n 0, 1) := dk_42 (dk_at dksX4_isInside_0 23 rfl rfl)
theorem dX4_isInside_24 : decode cX4_isInside 24 = .ok (.iload_n 1, 1) := dk_27 (dk_at dksX4_isInside_1 0 rfl rfl)
theorem dX4_isInside_25 : decode cX4_isInside 25 = .ok (.iload_n 3, 1) := dk_29 (dk_at dksX4_isInside_1 1 rfl rfl)
theorem dX4_isInside_26 : decode cX4_isInside 26 = .ok (.iconst 1, 1) := dk_4 (dk_at dksX4_isInside_1 2 rfl rfl)
theorem dX4_isInside_27 : decode cX4_isInside 27 = .ok (.iadd, 1) := dk_96 (dk_at dksX4_isInside_1 3 rfl rfl)
theorem dX4_isInside_28 : decode cX4_isInside 28 = .ok (.invokevirtual 322, 3) := dk_182 1 66 (dk_at dksX4_isInside_1 4 rfl rfl)
theorem dX4_isInside_31 : decode cX4_isInside 31 = .ok (.aload_n 0, 1) := dk_42 (dk_at dksX4_isInside_1 7 rfl rfl)
theorem dX4_isInside_32 : decode cX4_isInside 32 = .ok (.iload_n 1, 1) := dk_27 (dk_at dksX4_isInside_1 8 rfl rfl)
theorem dX4_isInside_33 : decode cX4_isInside 33 = .ok (.iload_n 3, 1) := dk_29 (dk_at dksX4_isInside_1 9 rfl rfl)
theorem dX4_isInside_34 : decode cX4_isInside 34 = .ok (.iconst 2, 1) := dk_5 (dk_at dksX4_isInside_1 10 rfl rfl)
theorem dX4_isInside_35 : decode cX4_isInside 35 = .ok (.iadd, 1) := dk_96 (dk_at dksX4_isInside_1 11 rfl rfl)
theorem dX4_isInside_36 : decode cX4_isInside 36 = .ok (.invokevirtual 322, 3) := dk_182 1 66 (dk_at dksX4_isInside_1 12 rfl rfl)
theorem dX4_isInside_39 : decode cX4_isInside 39 = .ok (.invokestatic 84, 3) := dk_184 0 84 (dk_at dksX4_isInside_1 15 rfl rfl)
theorem dX4_isInside_42 : decode cX4_isInside 42 = .ok (.ifCond .ne 5, 3) := dk_154 0 5 (dk_at dksX4_isInside_1 18 rfl rfl)
theorem dX4_isInside_45 : decode cX4_isInside 45 = .ok (.iconst 0, 1) := dk_3 (dk_at dksX4_isInside_1 21 rfl rfl)
theorem dX4_isInside_46 : decode cX4_isInside 46 = .ok (.ireturn, 1) := dk_172 (dk_at dksX4_isInside_1 22 rfl rfl)
theorem dX4_isInside_47 : decode cX4_isInside 47 = .ok (.iinc 3 3, 3) := dk_132 3 3 (dk_at dksX4_isInside_2 0 rfl rfl)
theorem dX4_isInside_50 : decode cX4_isInside 50 = .ok (.goto (-48), 3) := dk_167 255 208 (dk_at dksX4_isInside_2 3 rfl rfl)
theorem dX4_isInside_53 : decode cX4_isInside 53 = .ok (.iconst 1, 1) := dk_4 (dk_at dksX4_isInside_2 6 rfl rfl)
theorem dX4_isInside_54 : decode cX4_isInside 54 = .ok (.ireturn, 1) := dk_172 (dk_at dksX4_isInside_2 7 rfl rfl)
abbrev cX4_wallOf : ByteArray := prog_17_method_17_code
def yX4_wallOf : MethodName := ⟨RX4, "wallOf", "(II)I"⟩
def dkwX4_wallOf_0 : List UInt8 := [42, 17, 0, 150, 16, 6, 27, 104, 96, 28, 96, 182, 0, 69, 172]
abbrev dktX4_wallOf_0 : List UInt8 := dkwX4_wallOf_0 ++ []
theorem dksX4_wallOf_0 : cX4_wallOf.data.toList.drop 0 = dktX4_wallOf_0 := by decide +kernel
theorem dX4_wallOf_0 : decode cX4_wallOf 0 = .ok (.aload_n 0, 1) := dk_42 (dk_at dksX4_wallOf_0 0 rfl rfl)
theorem dX4_wallOf_1 : decode cX4_wallOf 1 = .ok (.sipush 150, 3) := dk_17 0 150 (dk_at dksX4_wallOf_0 1 rfl rfl)
theorem dX4_wallOf_4 : decode cX4_wallOf 4 = .ok (.bipush 6, 2) := dk_16 6 (dk_at dksX4_wallOf_0 4 rfl rfl)
theorem dX4_wallOf_6 : decode cX4_wallOf 6 = .ok (.iload_n 1, 1) := dk_27 (dk_at dksX4_wallOf_0 6 rfl rfl)
theorem dX4_wallOf_7 : decode cX4_wallOf 7 = .ok (.imul, 1) := dk_104 (dk_at dksX4_wallOf_0 7 rfl rfl)
theorem dX4_wallOf_8 : decode cX4_wallOf 8 = .ok (.iadd, 1) := dk_96 (dk_at dksX4_wallOf_0 8 rfl rfl)
theorem dX4_wallOf_9 : decode cX4_wallOf 9 = .ok (.iload_n 2, 1) := dk_28 (dk_at dksX4_wallOf_0 9 rfl rfl)
theorem dX4_wallOf_10 : decode cX4_wallOf 10 = .ok (.iadd, 1) := dk_96 (dk_at dksX4_wallOf_0 10 rfl rfl)
theorem dX4_wallOf_11 : decode cX4_wallOf 11 = .ok (.invokevirtual 69, 3) := dk_182 0 69 (dk_at dksX4_wallOf_0 11 rfl rfl)
theorem dX4_wallOf_14 : decode cX4_wallOf 14 = .ok (.ireturn, 1) := dk_172 (dk_at dksX4_wallOf_0 14 rfl rfl)
abbrev cX4_firstHit : ByteArray := prog_17_method_93_code
def yX4_firstHit : MethodName := ⟨RX4, "firstHit", "()I"⟩
def dkwX4_firstHit_1 : List UInt8 := [153, 0, 5, 27, 172, 132, 1, 1, 167, 255, 236, 2, 172]
abbrev dktX4_firstHit_1 : List UInt8 := dkwX4_firstHit_1 ++ []
def dkwX4_firstHit_0 : List UInt8 := [42, 3, 181, 0, 63, 42, 182, 1, 54, 3, 60, 27, 17, 3, 232, 162, 0, 19, 42, 27, 182, 1, 72]
abbrev dktX4_firstHit_0 : List UInt8 := dkwX4_firstHit_0 ++ dktX4_firstHit_1
theorem dksX4_firstHit_0 : cX4_firstHit.data.toList.drop 0 = dktX4_firstHit_0 := by decide +kernel
theorem dksX4_firstHit_1 : cX4_firstHit.data.toList.drop 23 = dktX4_firstHit_1 := dk_seg dksX4_firstHit_0 23 rfl rfl
theorem dX4_firstHit_0 : decode cX4_firstHit 0 = .ok (.aload_n 0, 1) := dk_42 (dk_at dksX4_firstHit_0 0 rfl rfl)
theorem dX4_firstHit_1 : decode cX4_firstHit 1 = .ok (.iconst 0, 1) := dk_3 (dk_at dksX4_firstHit_0 1 rfl rfl)
theorem dX4_firstHit_2 : decode cX4_firstHit 2 = .ok (.putfield 63, 3) := dk_181 0 63 (dk_at dksX4_firstHit_0 2 rfl rfl)
theorem dX4_firstHit_5 : decode cX4_firstHit 5 = .ok (.aload_n 0, 1) := dk_42 (dk_at dksX4_firstHit_0 5 rfl rfl)
theorem dX4_firstHit_6 : decode cX4_firstHit 6 = .ok (.invokevirtual 310, 3) := dk_182 1 54 (dk_at dksX4_firstHit_0 6 rfl rfl)
theorem dX4_firstHit_9 : decode cX4_firstHit 9 = .ok (.iconst 0, 1) := dk_3 (dk_at dksX4_firstHit_0 9 rfl rfl)
theorem dX4_firstHit_10 : decode cX4_firstHit 10 = .ok (.istore_n 1, 1) := dk_60 (dk_at dksX4_firstHit_0 10 rfl rfl)
theorem dX4_firstHit_11 : decode cX4_firstHit 11 = .ok (.iload_n 1, 1) := dk_27 (dk_at dksX4_firstHit_0 11 rfl rfl)
theorem dX4_firstHit_12 : decode cX4_firstHit 12 = .ok (.sipush 1000, 3) := dk_17 3 232 (dk_at dksX4_firstHit_0 12 rfl rfl)
theorem dX4_firstHit_15 : decode cX4_firstHit 15 = .ok (.if_icmp .ge 19, 3) := dk_162 0 19 (dk_at dksX4_firstHit_0 15 rfl rfl)
theorem dX4_firstHit_18 : decode cX4_firstHit 18 = .ok (.aload_n 0, 1) := dk_42 (dk_at dksX4_firstHit_0 18 rfl rfl)
theorem dX4_firstHit_19 : decode cX4_firstHit 19 = .ok (.iload_n 1, 1) := dk_27 (dk_at dksX4_firstHit_0 19 rfl rfl)
theorem dX4_firstHit_20 : decode cX4_firstHit 20 = .ok (.invokevirtual 328, 3) := dk_182 1 72 (dk_at dksX4_firstHit_0 20 rfl rfl)
theorem dX4_firstHit_23 : decode cX4_firstHit 23 = .ok (.ifCond .eq 5, 3) := dk_153 0 5 (dk_at dksX4_firstHit_1 0 rfl rfl)
theorem dX4_firstHit_26 : decode cX4_firstHit 26 = .ok (.iload_n 1, 1) := dk_27 (dk_at dksX4_firstHit_1 3 rfl rfl)
theorem dX4_firstHit_27 : decode cX4_firstHit 27 = .ok (.ireturn, 1) := dk_172 (dk_at dksX4_firstHit_1 4 rfl rfl)
theorem dX4_firstHit_28 : decode cX4_firstHit 28 = .ok (.iinc 1 1, 3) := dk_132 1 1 (dk_at dksX4_firstHit_1 5 rfl rfl)
theorem dX4_firstHit_31 : decode cX4_firstHit 31 = .ok (.goto (-20), 3) := dk_167 255 236 (dk_at dksX4_firstHit_1 8 rfl rfl)
theorem dX4_firstHit_34 : decode cX4_firstHit 34 = .ok (.iconst (-1), 1) := dk_2 (dk_at dksX4_firstHit_1 11 rfl rfl)
theorem dX4_firstHit_35 : decode cX4_firstHit 35 = .ok (.ireturn, 1) := dk_172 (dk_at dksX4_firstHit_1 12 rfl rfl)
abbrev cX4_framesInside : ByteArray := prog_17_method_94_code
def yX4_framesInside : MethodName := ⟨RX4, "framesInside", "(I)I"⟩
def dkwX4_framesInside_2 : List UInt8 := [132, 3, 1, 167, 255, 234, 28, 172]
abbrev dktX4_framesInside_2 : List UInt8 := dkwX4_framesInside_2 ++ []
def dkwX4_framesInside_1 : List UInt8 := [61, 3, 62, 29, 17, 3, 232, 162, 0, 21, 42, 27, 29, 182, 1, 69, 153, 0, 6, 132, 2, 1]
abbrev dktX4_framesInside_1 : List UInt8 := dkwX4_framesInside_1 ++ dktX4_framesInside_2
def dkwX4_framesInside_0 : List UInt8 := [42, 3, 181, 0, 63, 42, 27, 182, 1, 75, 154, 0, 9, 42, 4, 182, 0, 98, 172, 42, 182, 1, 54, 3]
abbrev dktX4_framesInside_0 : List UInt8 := dkwX4_framesInside_0 ++ dktX4_framesInside_1
theorem dksX4_framesInside_0 : cX4_framesInside.data.toList.drop 0 = dktX4_framesInside_0 := by decide +kernel
theorem dksX4_framesInside_1 : cX4_framesInside.data.toList.drop 24 = dktX4_framesInside_1 := dk_seg dksX4_framesInside_0 24 rfl rfl
theorem dksX4_framesInside_2 : cX4_framesInside.data.toList.drop 46 = dktX4_framesInside_2 := dk_seg dksX4_framesInside_1 22 rfl rfl
theorem dX4_framesInside_0 : decode cX4_framesInside 0 = .ok (.aload_n 0, 1) := dk_42 (dk_at dksX4_framesInside_0 0 rfl rfl)
theorem dX4_framesInside_1 : decode cX4_framesInside 1 = .ok (.iconst 0, 1) := dk_3 (dk_at dksX4_framesInside_0 1 rfl rfl)
theorem dX4_framesInside_2 : decode cX4_framesInside 2 = .ok (.putfield 63, 3) := dk_181 0 63 (dk_at dksX4_framesInside_0 2 rfl rfl)
theorem dX4_framesInside_5 : decode cX4_framesInside 5 = .ok (.aload_n 0, 1) := dk_42 (dk_at dksX4_framesInside_0 5 rfl rfl)
theorem dX4_framesInside_6 : decode cX4_framesInside 6 = .ok (.iload_n 1, 1) := dk_27 (dk_at dksX4_framesInside_0 6 rfl rfl)
theorem dX4_framesInside_7 : decode cX4_framesInside 7 = .ok (.invokevirtual 331, 3) := dk_182 1 75 (dk_at dksX4_framesInside_0 7 rfl rfl)
theorem dX4_framesInside_10 : decode cX4_framesInside 10 = .ok (.ifCond .ne 9, 3) := dk_154 0 9 (dk_at dksX4_framesInside_0 10 rfl rfl)
theorem dX4_framesInside_13 : decode cX4_framesInside 13 = .ok (.aload_n 0, 1) := dk_42 (dk_at dksX4_framesInside_0 13 rfl rfl)
theorem dX4_framesInside_14 : decode cX4_framesInside 14 = .ok (.iconst 1, 1) := dk_4 (dk_at dksX4_framesInside_0 14 rfl rfl)
theorem dX4_framesInside_15 : decode cX4_framesInside 15 = .ok (.invokevirtual 98, 3) := dk_182 0 98 (dk_at dksX4_framesInside_0 15 rfl rfl)
theorem dX4_framesInside_18 : decode cX4_framesInside 18 = .ok (.ireturn, 1) := dk_172 (dk_at dksX4_framesInside_0 18 rfl rfl)
theorem dX4_framesInside_19 : decode cX4_framesInside 19 = .ok (.aload_n 0, 1) := dk_42 (dk_at dksX4_framesInside_0 19 rfl rfl)
theorem dX4_framesInside_20 : decode cX4_framesInside 20 = .ok (.invokevirtual 310, 3) := dk_182 1 54 (dk_at dksX4_framesInside_0 20 rfl rfl)
theorem dX4_framesInside_23 : decode cX4_framesInside 23 = .ok (.iconst 0, 1) := dk_3 (dk_at dksX4_framesInside_0 23 rfl rfl)
theorem dX4_framesInside_24 : decode cX4_framesInside 24 = .ok (.istore_n 2, 1) := dk_61 (dk_at dksX4_framesInside_1 0 rfl rfl)
theorem dX4_framesInside_25 : decode cX4_framesInside 25 = .ok (.iconst 0, 1) := dk_3 (dk_at dksX4_framesInside_1 1 rfl rfl)
theorem dX4_framesInside_26 : decode cX4_framesInside 26 = .ok (.istore_n 3, 1) := dk_62 (dk_at dksX4_framesInside_1 2 rfl rfl)
theorem dX4_framesInside_27 : decode cX4_framesInside 27 = .ok (.iload_n 3, 1) := dk_29 (dk_at dksX4_framesInside_1 3 rfl rfl)
theorem dX4_framesInside_28 : decode cX4_framesInside 28 = .ok (.sipush 1000, 3) := dk_17 3 232 (dk_at dksX4_framesInside_1 4 rfl rfl)
theorem dX4_framesInside_31 : decode cX4_framesInside 31 = .ok (.if_icmp .ge 21, 3) := dk_162 0 21 (dk_at dksX4_framesInside_1 7 rfl rfl)
theorem dX4_framesInside_34 : decode cX4_framesInside 34 = .ok (.aload_n 0, 1) := dk_42 (dk_at dksX4_framesInside_1 10 rfl rfl)
theorem dX4_framesInside_35 : decode cX4_framesInside 35 = .ok (.iload_n 1, 1) := dk_27 (dk_at dksX4_framesInside_1 11 rfl rfl)
theorem dX4_framesInside_36 : decode cX4_framesInside 36 = .ok (.iload_n 3, 1) := dk_29 (dk_at dksX4_framesInside_1 12 rfl rfl)
theorem dX4_framesInside_37 : decode cX4_framesInside 37 = .ok (.invokevirtual 325, 3) := dk_182 1 69 (dk_at dksX4_framesInside_1 13 rfl rfl)
theorem dX4_framesInside_40 : decode cX4_framesInside 40 = .ok (.ifCond .eq 6, 3) := dk_153 0 6 (dk_at dksX4_framesInside_1 16 rfl rfl)
theorem dX4_framesInside_43 : decode cX4_framesInside 43 = .ok (.iinc 2 1, 3) := dk_132 2 1 (dk_at dksX4_framesInside_1 19 rfl rfl)
theorem dX4_framesInside_46 : decode cX4_framesInside 46 = .ok (.iinc 3 1, 3) := dk_132 3 1 (dk_at dksX4_framesInside_2 0 rfl rfl)
theorem dX4_framesInside_49 : decode cX4_framesInside 49 = .ok (.goto (-22), 3) := dk_167 255 234 (dk_at dksX4_framesInside_2 3 rfl rfl)
theorem dX4_framesInside_52 : decode cX4_framesInside 52 = .ok (.iload_n 2, 1) := dk_28 (dk_at dksX4_framesInside_2 6 rfl rfl)
theorem dX4_framesInside_53 : decode cX4_framesInside 53 = .ok (.ireturn, 1) := dk_172 (dk_at dksX4_framesInside_2 7 rfl rfl)
abbrev cX4_isWall : ByteArray := prog_17_method_14_code
def yX4_isWall : MethodName := ⟨RX4, "isWall", "(I)Z"⟩
def dkwX4_isWall_0 : List UInt8 := [27, 3, 42, 17, 0, 149, 182, 0, 69, 4, 100, 184, 0, 84, 172]
abbrev dktX4_isWall_0 : List UInt8 := dkwX4_isWall_0 ++ []
theorem dksX4_isWall_0 : cX4_isWall.data.toList.drop 0 = dktX4_isWall_0 := by decide +kernel
theorem dX4_isWall_0 : decode cX4_isWall 0 = .ok (.iload_n 1, 1) := dk_27 (dk_at dksX4_isWall_0 0 rfl rfl)
theorem dX4_isWall_1 : decode cX4_isWall 1 = .ok (.iconst 0, 1) := dk_3 (dk_at dksX4_isWall_0 1 rfl rfl)
theorem dX4_isWall_2 : decode cX4_isWall 2 = .ok (.aload_n 0, 1) := dk_42 (dk_at dksX4_isWall_0 2 rfl rfl)
theorem dX4_isWall_3 : decode cX4_isWall 3 = .ok (.sipush 149, 3) := dk_17 0 149 (dk_at dksX4_isWall_0 3 rfl rfl)
theorem dX4_isWall_6 : decode cX4_isWall 6 = .ok (.invokevirtual 69, 3) := dk_182 0 69 (dk_at dksX4_isWall_0 6 rfl rfl)
theorem dX4_isWall_9 : decode cX4_isWall 9 = .ok (.iconst 1, 1) := dk_4 (dk_at dksX4_isWall_0 9 rfl rfl)
theorem dX4_isWall_10 : decode cX4_isWall 10 = .ok (.isub, 1) := dk_100 (dk_at dksX4_isWall_0 10 rfl rfl)
theorem dX4_isWall_11 : decode cX4_isWall 11 = .ok (.invokestatic 84, 3) := dk_184 0 84 (dk_at dksX4_isWall_0 11 rfl rfl)
theorem dX4_isWall_14 : decode cX4_isWall 14 = .ok (.ireturn, 1) := dk_172 (dk_at dksX4_isWall_0 14 rfl rfl)
abbrev cX4_shown : ByteArray := prog_17_method_97_code
def yX4_shown : MethodName := ⟨RX4, "shown", "(II)I"⟩
def dkwX4_shown_1 : List UInt8 := [182, 1, 85, 167, 0, 8, 42, 4, 182, 0, 98, 172]
abbrev dktX4_shown_1 : List UInt8 := dkwX4_shown_1 ++ []
def dkwX4_shown_0 : List UInt8 := [42, 3, 181, 0, 63, 42, 27, 182, 1, 82, 153, 0, 19, 28, 184, 1, 45, 153, 0, 12, 42, 27, 28]
abbrev dktX4_shown_0 : List UInt8 := dkwX4_shown_0 ++ dktX4_shown_1
theorem dksX4_shown_0 : cX4_shown.data.toList.drop 0 = dktX4_shown_0 := by decide +kernel
theorem dksX4_shown_1 : cX4_shown.data.toList.drop 23 = dktX4_shown_1 := dk_seg dksX4_shown_0 23 rfl rfl
theorem dX4_shown_0 : decode cX4_shown 0 = .ok (.aload_n 0, 1) := dk_42 (dk_at dksX4_shown_0 0 rfl rfl)
theorem dX4_shown_1 : decode cX4_shown 1 = .ok (.iconst 0, 1) := dk_3 (dk_at dksX4_shown_0 1 rfl rfl)
theorem dX4_shown_2 : decode cX4_shown 2 = .ok (.putfield 63, 3) := dk_181 0 63 (dk_at dksX4_shown_0 2 rfl rfl)
theorem dX4_shown_5 : decode cX4_shown 5 = .ok (.aload_n 0, 1) := dk_42 (dk_at dksX4_shown_0 5 rfl rfl)
theorem dX4_shown_6 : decode cX4_shown 6 = .ok (.iload_n 1, 1) := dk_27 (dk_at dksX4_shown_0 6 rfl rfl)
theorem dX4_shown_7 : decode cX4_shown 7 = .ok (.invokevirtual 338, 3) := dk_182 1 82 (dk_at dksX4_shown_0 7 rfl rfl)
theorem dX4_shown_10 : decode cX4_shown 10 = .ok (.ifCond .eq 19, 3) := dk_153 0 19 (dk_at dksX4_shown_0 10 rfl rfl)
theorem dX4_shown_13 : decode cX4_shown 13 = .ok (.iload_n 2, 1) := dk_28 (dk_at dksX4_shown_0 13 rfl rfl)
theorem dX4_shown_14 : decode cX4_shown 14 = .ok (.invokestatic 301, 3) := dk_184 1 45 (dk_at dksX4_shown_0 14 rfl rfl)
theorem dX4_shown_17 : decode cX4_shown 17 = .ok (.ifCond .eq 12, 3) := dk_153 0 12 (dk_at dksX4_shown_0 17 rfl rfl)
theorem dX4_shown_20 : decode cX4_shown 20 = .ok (.aload_n 0, 1) := dk_42 (dk_at dksX4_shown_0 20 rfl rfl)
theorem dX4_shown_21 : decode cX4_shown 21 = .ok (.iload_n 1, 1) := dk_27 (dk_at dksX4_shown_0 21 rfl rfl)
theorem dX4_shown_22 : decode cX4_shown 22 = .ok (.iload_n 2, 1) := dk_28 (dk_at dksX4_shown_0 22 rfl rfl)
theorem dX4_shown_23 : decode cX4_shown 23 = .ok (.invokevirtual 341, 3) := dk_182 1 85 (dk_at dksX4_shown_1 0 rfl rfl)
theorem dX4_shown_26 : decode cX4_shown 26 = .ok (.goto 8, 3) := dk_167 0 8 (dk_at dksX4_shown_1 3 rfl rfl)
theorem dX4_shown_29 : decode cX4_shown 29 = .ok (.aload_n 0, 1) := dk_42 (dk_at dksX4_shown_1 6 rfl rfl)
theorem dX4_shown_30 : decode cX4_shown 30 = .ok (.iconst 1, 1) := dk_4 (dk_at dksX4_shown_1 7 rfl rfl)
theorem dX4_shown_31 : decode cX4_shown 31 = .ok (.invokevirtual 98, 3) := dk_182 0 98 (dk_at dksX4_shown_1 8 rfl rfl)
theorem dX4_shown_34 : decode cX4_shown 34 = .ok (.ireturn, 1) := dk_172 (dk_at dksX4_shown_1 11 rfl rfl)
abbrev cX4_isPass : ByteArray := prog_17_method_15_code
def yX4_isPass : MethodName := ⟨RX4, "isPass", "(I)Z"⟩
def dkwX4_isPass_0 : List UInt8 := [27, 3, 42, 180, 0, 92, 4, 100, 184, 0, 84, 172]
abbrev dktX4_isPass_0 : List UInt8 := dkwX4_isPass_0 ++ []
theorem dksX4_isPass_0 : cX4_isPass.data.toList.drop 0 = dktX4_isPass_0 := by decide +kernel
theorem dX4_isPass_0 : decode cX4_isPass 0 = .ok (.iload_n 1, 1) := dk_27 (dk_at dksX4_isPass_0 0 rfl rfl)
theorem dX4_isPass_1 : decode cX4_isPass 1 = .ok (.iconst 0, 1) := dk_3 (dk_at dksX4_isPass_0 1 rfl rfl)
theorem dX4_isPass_2 : decode cX4_isPass 2 = .ok (.aload_n 0, 1) := dk_42 (dk_at dksX4_isPass_0 2 rfl rfl)
theorem dX4_isPass_3 : decode cX4_isPass 3 = .ok (.getfield 92, 3) := dk_180 0 92 (dk_at dksX4_isPass_0 3 rfl rfl)
theorem dX4_isPass_6 : decode cX4_isPass 6 = .ok (.iconst 1, 1) := dk_4 (dk_at dksX4_isPass_0 6 rfl rfl)
theorem dX4_isPass_7 : decode cX4_isPass 7 = .ok (.isub, 1) := dk_100 (dk_at dksX4_isPass_0 7 rfl rfl)
theorem dX4_isPass_8 : decode cX4_isPass 8 = .ok (.invokestatic 84, 3) := dk_184 0 84 (dk_at dksX4_isPass_0 8 rfl rfl)
theorem dX4_isPass_11 : decode cX4_isPass 11 = .ok (.ireturn, 1) := dk_172 (dk_at dksX4_isPass_0 11 rfl rfl)
abbrev cX4_shownIn : ByteArray := prog_17_method_96_code
def yX4_shownIn : MethodName := ⟨RX4, "shownIn", "(II)I"⟩
def dkwX4_shownIn_1 : List UInt8 := [104, 5, 96, 46, 28, 184, 1, 78, 172]
abbrev dktX4_shownIn_1 : List UInt8 := dkwX4_shownIn_1 ++ []
def dkwX4_shownIn_0 : List UInt8 := [42, 180, 0, 20, 6, 27, 104, 46, 42, 180, 0, 20, 6, 27, 104, 4, 96, 46, 42, 180, 0, 20, 6, 27]
abbrev dktX4_shownIn_0 : List UInt8 := dkwX4_shownIn_0 ++ dktX4_shownIn_1
theorem dksX4_shownIn_0 : cX4_shownIn.data.toList.drop 0 = dktX4_shownIn_0 := by decide +kernel
theorem dksX4_shownIn_1 : cX4_shownIn.data.toList.drop 24 = dktX4_shownIn_1 := dk_seg dksX4_shownIn_0 24 rfl rfl
theorem dX4_shownIn_0 : decode cX4_shownIn 0 = .ok (.aload_n 0, 1) := dk_42 (dk_at dksX4_shownIn_0 0 rfl rfl)
theorem dX4_shownIn_1 : decode cX4_shownIn 1 = .ok (.getfield 20, 3) := dk_180 0 20 (dk_at dksX4_shownIn_0 1 rfl rfl)
theorem dX4_shownIn_4 : decode cX4_shownIn 4 = .ok (.iconst 3, 1) := dk_6 (dk_at dksX4_shownIn_0 4 rfl rfl)
theorem dX4_shownIn_5 : decode cX4_shownIn 5 = .ok (.iload_n 1, 1) := dk_27 (dk_at dksX4_shownIn_0 5 rfl rfl)
theorem dX4_shownIn_6 : decode cX4_shownIn 6 = .ok (.imul, 1) := dk_104 (dk_at dksX4_shownIn_0 6 rfl rfl)
theorem dX4_shownIn_7 : decode cX4_shownIn 7 = .ok (.iaload, 1) := dk_46 (dk_at dksX4_shownIn_0 7 rfl rfl)
theorem dX4_shownIn_8 : decode cX4_shownIn 8 = .ok (.aload_n 0, 1) := dk_42 (dk_at dksX4_shownIn_0 8 rfl rfl)
theorem dX4_shownIn_9 : decode cX4_shownIn 9 = .ok (.getfield 20, 3) := dk_180 0 20 (dk_at dksX4_shownIn_0 9 rfl rfl)
theorem dX4_shownIn_12 : decode cX4_shownIn 12 = .ok (.iconst 3, 1) := dk_6 (dk_at dksX4_shownIn_0 12 rfl rfl)
theorem dX4_shownIn_13 : decode cX4_shownIn 13 = .ok (.iload_n 1, 1) := dk_27 (dk_at dksX4_shownIn_0 13 rfl rfl)
theorem dX4_shownIn_14 : decode cX4_shownIn 14 = .ok (.imul, 1) := dk_104 (dk_at dksX4_shownIn_0 14 rfl rfl)
theorem dX4_shownIn_15 : decode cX4_shownIn 15 = .ok (.iconst 1, 1) := dk_4 (dk_at dksX4_shownIn_0 15 rfl rfl)
theorem dX4_shownIn_16 : decode cX4_shownIn 16 = .ok (.iadd, 1) := dk_96 (dk_at dksX4_shownIn_0 16 rfl rfl)
theorem dX4_shownIn_17 : decode cX4_shownIn 17 = .ok (.iaload, 1) := dk_46 (dk_at dksX4_shownIn_0 17 rfl rfl)
theorem dX4_shownIn_18 : decode cX4_shownIn 18 = .ok (.aload_n 0, 1) := dk_42 (dk_at dksX4_shownIn_0 18 rfl rfl)
theorem dX4_shownIn_19 : decode cX4_shownIn 19 = .ok (.getfield 20, 3) := dk_180 0 20 (dk_at dksX4_shownIn_0 19 rfl rfl)
theorem dX4_shownIn_22 : decode cX4_shownIn 22 = .ok (.iconst 3, 1) := dk_6 (dk_at dksX4_shownIn_0 22 rfl rfl)
theorem dX4_shownIn_23 : decode cX4_shownIn 23 = .ok (.iload_n 1, 1) := dk_27 (dk_at dksX4_shownIn_0 23 rfl rfl)
theorem dX4_shownIn_24 : decode cX4_shownIn 24 = .ok (.imul, 1) := dk_104 (dk_at dksX4_shownIn_1 0 rfl rfl)
theorem dX4_shownIn_25 : decode cX4_shownIn 25 = .ok (.iconst 2, 1) := dk_5 (dk_at dksX4_shownIn_1 1 rfl rfl)
theorem dX4_shownIn_26 : decode cX4_shownIn 26 = .ok (.iadd, 1) := dk_96 (dk_at dksX4_shownIn_1 2 rfl rfl)
theorem dX4_shownIn_27 : decode cX4_shownIn 27 = .ok (.iaload, 1) := dk_46 (dk_at dksX4_shownIn_1 3 rfl rfl)
theorem dX4_shownIn_28 : decode cX4_shownIn 28 = .ok (.iload_n 2, 1) := dk_28 (dk_at dksX4_shownIn_1 4 rfl rfl)
theorem dX4_shownIn_29 : decode cX4_shownIn 29 = .ok (.invokestatic 334, 3) := dk_184 1 78 (dk_at dksX4_shownIn_1 5 rfl rfl)
theorem dX4_shownIn_32 : decode cX4_shownIn 32 = .ok (.ireturn, 1) := dk_172 (dk_at dksX4_shownIn_1 8 rfl rfl)
abbrev cX4_shownBy : ByteArray := prog_17_method_95_code
def yX4_shownBy : MethodName := ⟨RX4, "shownBy", "(IIII)I"⟩
def dkwX4_shownBy_1 : List UInt8 := [17, 3, 231, 167, 0, 5, 21, 4, 172]
abbrev dktX4_shownBy_1 : List UInt8 := dkwX4_shownBy_1 ++ []
def dkwX4_shownBy_0 : List UInt8 := [29, 28, 162, 0, 5, 3, 172, 29, 28, 100, 26, 104, 27, 108, 54, 4, 21, 4, 17, 3, 231, 164, 0, 9]
abbrev dktX4_shownBy_0 : List UInt8 := dkwX4_shownBy_0 ++ dktX4_shownBy_1
theorem dksX4_shownBy_0 : cX4_shownBy.data.toList.drop 0 = dktX4_shownBy_0 := by decide +kernel
theorem dksX4_shownBy_1 : cX4_shownBy.data.toList.drop 24 = dktX4_shownBy_1 := dk_seg dksX4_shownBy_0 24 rfl rfl
theorem dX4_shownBy_0 : decode cX4_shownBy 0 = .ok (.iload_n 3, 1) := dk_29 (dk_at dksX4_shownBy_0 0 rfl rfl)
theorem dX4_shownBy_1 : decode cX4_shownBy 1 = .ok (.iload_n 2, 1) := dk_28 (dk_at dksX4_shownBy_0 1 rfl rfl)
theorem dX4_shownBy_2 : decode cX4_shownBy 2 = .ok (.if_icmp .ge 5, 3) := dk_162 0 5 (dk_at dksX4_shownBy_0 2 rfl rfl)
theorem dX4_shownBy_5 : decode cX4_shownBy 5 = .ok (.iconst 0, 1) := dk_3 (dk_at dksX4_shownBy_0 5 rfl rfl)
theorem dX4_shownBy_6 : decode cX4_shownBy 6 = .ok (.ireturn, 1) := dk_172 (dk_at dksX4_shownBy_0 6 rfl rfl)
theorem dX4_shownBy_7 : decode cX4_shownBy 7 = .ok (.iload_n 3, 1) := dk_29 (dk_at dksX4_shownBy_0 7 rfl rfl)
theorem dX4_shownBy_8 : decode cX4_shownBy 8 = .ok (.iload_n 2, 1) := dk_28 (dk_at dksX4_shownBy_0 8 rfl rfl)
theorem dX4_shownBy_9 : decode cX4_shownBy 9 = .ok (.isub, 1) := dk_100 (dk_at dksX4_shownBy_0 9 rfl rfl)
theorem dX4_shownBy_10 : decode cX4_shownBy 10 = .ok (.iload_n 0, 1) := dk_26 (dk_at dksX4_shownBy_0 10 rfl rfl)
theorem dX4_shownBy_11 : decode cX4_shownBy 11 = .ok (.imul, 1) := dk_104 (dk_at dksX4_shownBy_0 11 rfl rfl)
theorem dX4_shownBy_12 : decode cX4_shownBy 12 = .ok (.iload_n 1, 1) := dk_27 (dk_at dksX4_shownBy_0 12 rfl rfl)
theorem dX4_shownBy_13 : decode cX4_shownBy 13 = .ok (.idiv, 1) := dk_108 (dk_at dksX4_shownBy_0 13 rfl rfl)
theorem dX4_shownBy_14 : decode cX4_shownBy 14 = .ok (.istore 4, 2) := dk_54 4 (dk_at dksX4_shownBy_0 14 rfl rfl)
theorem dX4_shownBy_16 : decode cX4_shownBy 16 = .ok (.iload 4, 2) := dk_21 4 (dk_at dksX4_shownBy_0 16 rfl rfl)
theorem dX4_shownBy_18 : decode cX4_shownBy 18 = .ok (.sipush 999, 3) := dk_17 3 231 (dk_at dksX4_shownBy_0 18 rfl rfl)
theorem dX4_shownBy_21 : decode cX4_shownBy 21 = .ok (.if_icmp .le 9, 3) := dk_164 0 9 (dk_at dksX4_shownBy_0 21 rfl rfl)
theorem dX4_shownBy_24 : decode cX4_shownBy 24 = .ok (.sipush 999, 3) := dk_17 3 231 (dk_at dksX4_shownBy_1 0 rfl rfl)
theorem dX4_shownBy_27 : decode cX4_shownBy 27 = .ok (.goto 5, 3) := dk_167 0 5 (dk_at dksX4_shownBy_1 3 rfl rfl)
theorem dX4_shownBy_30 : decode cX4_shownBy 30 = .ok (.iload 4, 2) := dk_21 4 (dk_at dksX4_shownBy_1 6 rfl rfl)
theorem dX4_shownBy_32 : decode cX4_shownBy 32 = .ok (.ireturn, 1) := dk_172 (dk_at dksX4_shownBy_1 8 rfl rfl)
abbrev cX4_passPosition : ByteArray := prog_17_method_98_code
def yX4_passPosition : MethodName := ⟨RX4, "passPosition", "(III)I"⟩
def dkwX4_passPosition_2 : List UInt8 := [182, 1, 85, 182, 1, 42, 172]
abbrev dktX4_passPosition_2 : List UInt8 := dkwX4_passPosition_2 ++ []
def dkwX4_passPosition_1 : List UInt8 := [184, 1, 45, 154, 0, 9, 42, 4, 182, 0, 98, 172, 42, 28, 182, 1, 39, 42, 28, 42, 27, 29]
abbrev dktX4_passPosition_1 : List UInt8 := dkwX4_passPosition_1 ++ dktX4_passPosition_2
def dkwX4_passPosition_0 : List UInt8 := [42, 3, 181, 0, 63, 42, 27, 182, 1, 82, 153, 0, 18, 42, 28, 182, 0, 220, 153, 0, 10, 29]
abbrev dktX4_passPosition_0 : List UInt8 := dkwX4_passPosition_0 ++ dktX4_passPosition_1
theorem dksX4_passPosition_0 : cX4_passPosition.data.toList.drop 0 = dktX4_passPosition_0 := by decide +kernel
theorem dksX4_passPosition_1 : cX4_passPosition.data.toList.drop 22 = dktX4_passPosition_1 := dk_seg dksX4_passPosition_0 22 rfl rfl
theorem dksX4_passPosition_2 : cX4_passPosition.data.toList.drop 44 = dktX4_passPosition_2 := dk_seg dksX4_passPosition_1 22 rfl rfl
theorem dX4_passPosition_0 : decode cX4_passPosition 0 = .ok (.aload_n 0, 1) := dk_42 (dk_at dksX4_passPosition_0 0 rfl rfl)
theorem dX4_passPosition_1 : decode cX4_passPosition 1 = .ok (.iconst 0, 1) := dk_3 (dk_at dksX4_passPosition_0 1 rfl rfl)
theorem dX4_passPosition_2 : decode cX4_passPosition 2 = .ok (.putfield 63, 3) := dk_181 0 63 (dk_at dksX4_passPosition_0 2 rfl rfl)
theorem dX4_passPosition_5 : decode cX4_passPosition 5 = .ok (.aload_n 0, 1) := dk_42 (dk_at dksX4_passPosition_0 5 rfl rfl)
theorem dX4_passPosition_6 : decode cX4_passPosition 6 = .ok (.iload_n 1, 1) := dk_27 (dk_at dksX4_passPosition_0 6 rfl rfl)
theorem dX4_passPosition_7 : decode cX4_passPosition 7 = .ok (.invokevirtual 338, 3) := dk_182 1 82 (dk_at dksX4_passPosition_0 7 rfl rfl)
theorem dX4_passPosition_10 : decode cX4_passPosition 10 = .ok (.ifCond .eq 18, 3) := dk_153 0 18 (dk_at dksX4_passPosition_0 10 rfl rfl)
theorem dX4_passPosition_13 : decode cX4_passPosition 13 = .ok (.aload_n 0, 1) := dk_42 (dk_at dksX4_passPosition_0 13 rfl rfl)
theorem dX4_passPosition_14 : decode cX4_passPosition 14 = .ok (.iload_n 2, 1) := dk_28 (dk_at dksX4_passPosition_0 14 rfl rfl)
theorem dX4_passPosition_15 : decode cX4_passPosition 15 = .ok (.invokevirtual 220, 3) := dk_182 0 220 (dk_at dksX4_passPosition_0 15 rfl rfl)
theorem dX4_passPosition_18 : decode cX4_passPosition 18 = .ok (.ifCond .eq 10, 3) := dk_153 0 10 (dk_at dksX4_passPosition_0 18 rfl rfl)
theorem dX4_passPosition_21 : decode cX4_passPosition 21 = .ok (.iload_n 3, 1) := dk_29 (dk_at dksX4_passPosition_0 21 rfl rfl)
theorem dX4_passPosition_22 : decode cX4_passPosition 22 = .ok (.invokestatic 301, 3) := dk_184 1 45 (dk_at dksX4_passPosition_1 0 rfl rfl)
theorem dX4_passPosition_25 : decode cX4_passPosition 25 = .ok (.ifCond .ne 9, 3) := dk_154 0 9 (dk_at dksX4_passPosition_1 3 rfl rfl)
theorem dX4_passPosition_28 : decode cX4_passPosition 28 = .ok (.aload_n 0, 1) := dk_42 (dk_at dksX4_passPosition_1 6 rfl rfl)
theorem dX4_passPosition_29 : decode cX4_passPosition 29 = .ok (.iconst 1, 1) := dk_4 (dk_at dksX4_passPosition_1 7 rfl rfl)
theorem dX4_passPosition_30 : decode cX4_passPosition 30 = .ok (.invokevirtual 98, 3) := dk_182 0 98 (dk_at dksX4_passPosition_1 8 rfl rfl)
theorem dX4_passPosition_33 : decode cX4_passPosition 33 = .ok (.ireturn, 1) := dk_172 (dk_at dksX4_passPosition_1 11 rfl rfl)
theorem dX4_passPosition_34 : decode cX4_passPosition 34 = .ok (.aload_n 0, 1) := dk_42 (dk_at dksX4_passPosition_1 12 rfl rfl)
theorem dX4_passPosition_35 : decode cX4_passPosition 35 = .ok (.iload_n 2, 1) := dk_28 (dk_at dksX4_passPosition_1 13 rfl rfl)
theorem dX4_passPosition_36 : decode cX4_passPosition 36 = .ok (.invokevirtual 295, 3) := dk_182 1 39 (dk_at dksX4_passPosition_1 14 rfl rfl)
theorem dX4_passPosition_39 : decode cX4_passPosition 39 = .ok (.aload_n 0, 1) := dk_42 (dk_at dksX4_passPosition_1 17 rfl rfl)
theorem dX4_passPosition_40 : decode cX4_passPosition 40 = .ok (.iload_n 2, 1) := dk_28 (dk_at dksX4_passPosition_1 18 rfl rfl)
theorem dX4_passPosition_41 : decode cX4_passPosition 41 = .ok (.aload_n 0, 1) := dk_42 (dk_at dksX4_passPosition_1 19 rfl rfl)
theorem dX4_passPosition_42 : decode cX4_passPosition 42 = .ok (.iload_n 1, 1) := dk_27 (dk_at dksX4_passPosition_1 20 rfl rfl)
theorem dX4_passPosition_43 : decode cX4_passPosition 43 = .ok (.iload_n 3, 1) := dk_29 (dk_at dksX4_passPosition_1 21 rfl rfl)
theorem dX4_passPosition_44 : decode cX4_passPosition 44 = .ok (.invokevirtual 341, 3) := dk_182 1 85 (dk_at dksX4_passPosition_2 0 rfl rfl)
theorem dX4_passPosition_47 : decode cX4_passPosition 47 = .ok (.invokevirtual 298, 3) := dk_182 1 42 (dk_at dksX4_passPosition_2 3 rfl rfl)
theorem dX4_passPosition_50 : decode cX4_passPosition 50 = .ok (.ireturn, 1) := dk_172 (dk_at dksX4_passPosition_2 6 rfl rfl)
abbrev cX4_fits : ByteArray := prog_17_method_100_code
def yX4_fits : MethodName := ⟨RX4, "fits", "(I)Z"⟩
def dkwX4_fits_1 : List UInt8 := [3, 172, 42, 182, 1, 54, 42, 27, 42, 180, 0, 20, 6, 27, 104, 4, 96, 46, 182, 1, 88, 172]
abbrev dktX4_fits_1 : List UInt8 := dkwX4_fits_1 ++ []
def dkwX4_fits_0 : List UInt8 := [42, 42, 27, 182, 1, 82, 153, 0, 7, 3, 167, 0, 4, 4, 181, 0, 63, 42, 180, 0, 63, 158, 0, 5]
abbrev dktX4_fits_0 : List UInt8 := dkwX4_fits_0 ++ dktX4_fits_1
theorem dksX4_fits_0 : cX4_fits.data.toList.drop 0 = dktX4_fits_0 := by decide +kernel
theorem dksX4_fits_1 : cX4_fits.data.toList.drop 24 = dktX4_fits_1 := dk_seg dksX4_fits_0 24 rfl rfl
theorem dX4_fits_0 : decode cX4_fits 0 = .ok (.aload_n 0, 1) := dk_42 (dk_at dksX4_fits_0 0 rfl rfl)
theorem dX4_fits_1 : decode cX4_fits 1 = .ok (.aload_n 0, 1) := dk_42 (dk_at dksX4_fits_0 1 rfl rfl)
theorem dX4_fits_2 : decode cX4_fits 2 = .ok (.iload_n 1, 1) := dk_27 (dk_at dksX4_fits_0 2 rfl rfl)
theorem dX4_fits_3 : decode cX4_fits 3 = .ok (.invokevirtual 338, 3) := dk_182 1 82 (dk_at dksX4_fits_0 3 rfl rfl)
theorem dX4_fits_6 : decode cX4_fits 6 = .ok (.ifCond .eq 7, 3) := dk_153 0 7 (dk_at dksX4_fits_0 6 rfl rfl)
theorem dX4_fits_9 : decode cX4_fits 9 = .ok (.iconst 0, 1) := dk_3 (dk_at dksX4_fits_0 9 rfl rfl)
theorem dX4_fits_10 : decode cX4_fits 10 = .ok (.goto 4, 3) := dk_167 0 4 (dk_at dksX4_fits_0 10 rfl rfl)
theorem dX4_fits_13 : decode cX4_fits 13 = .ok (.iconst 1, 1) := dk_4 (dk_at dksX4_fits_0 13 rfl rfl)
theorem dX4_fits_14 : decode cX4_fits 14 = .ok (.putfield 63, 3) := dk_181 0 63 (dk_at dksX4_fits_0 14 rfl rfl)
theorem dX4_fits_17 : decode cX4_fits 17 = .ok (.aload_n 0, 1) := dk_42 (dk_at dksX4_fits_0 17 rfl rfl)
theorem dX4_fits_18 : decode cX4_fits 18 = .ok (.getfield 63, 3) := dk_180 0 63 (dk_at dksX4_fits_0 18 rfl rfl)
theorem dX4_fits_21 : decode cX4_fits 21 = .ok (.ifCond .le 5, 3) := dk_158 0 5 (dk_at dksX4_fits_0 21 rfl rfl)
theorem dX4_fits_24 : decode cX4_fits 24 = .ok (.iconst 0, 1) := dk_3 (dk_at dksX4_fits_1 0 rfl rfl)
theorem dX4_fits_25 : decode cX4_fits 25 = .ok (.ireturn, 1) := dk_172 (dk_at dksX4_fits_1 1 rfl rfl)
theorem dX4_fits_26 : decode cX4_fits 26 = .ok (.aload_n 0, 1) := dk_42 (dk_at dksX4_fits_1 2 rfl rfl)
theorem dX4_fits_27 : decode cX4_fits 27 = .ok (.invokevirtual 310, 3) := dk_182 1 54 (dk_at dksX4_fits_1 3 rfl rfl)
theorem dX4_fits_30 : decode cX4_fits 30 = .ok (.aload_n 0, 1) := dk_42 (dk_at dksX4_fits_1 6 rfl rfl)
theorem dX4_fits_31 : decode cX4_fits 31 = .ok (.iload_n 1, 1) := dk_27 (dk_at dksX4_fits_1 7 rfl rfl)
theorem dX4_fits_32 : decode cX4_fits 32 = .ok (.aload_n 0, 1) := dk_42 (dk_at dksX4_fits_1 8 rfl rfl)
theorem dX4_fits_33 : decode cX4_fits 33 = .ok (.getfield 20, 3) := dk_180 0 20 (dk_at dksX4_fits_1 9 rfl rfl)
theorem dX4_fits_36 : decode cX4_fits 36 = .ok (.iconst 3, 1) := dk_6 (dk_at dksX4_fits_1 12 rfl rfl)
theorem dX4_fits_37 : decode cX4_fits 37 = .ok (.iload_n 1, 1) := dk_27 (dk_at dksX4_fits_1 13 rfl rfl)
theorem dX4_fits_38 : decode cX4_fits 38 = .ok (.imul, 1) := dk_104 (dk_at dksX4_fits_1 14 rfl rfl)
theorem dX4_fits_39 : decode cX4_fits 39 = .ok (.iconst 1, 1) := dk_4 (dk_at dksX4_fits_1 15 rfl rfl)
theorem dX4_fits_40 : decode cX4_fits 40 = .ok (.iadd, 1) := dk_96 (dk_at dksX4_fits_1 16 rfl rfl)
theorem dX4_fits_41 : decode cX4_fits 41 = .ok (.iaload, 1) := dk_46 (dk_at dksX4_fits_1 17 rfl rfl)
theorem dX4_fits_42 : decode cX4_fits 42 = .ok (.invokevirtual 344, 3) := dk_182 1 88 (dk_at dksX4_fits_1 18 rfl rfl)
theorem dX4_fits_45 : decode cX4_fits 45 = .ok (.ireturn, 1) := dk_172 (dk_at dksX4_fits_1 21 rfl rfl)
abbrev cX4_fitsBy : ByteArray := prog_17_method_99_code
def yX4_fitsBy : MethodName := ⟨RX4, "fitsBy", "(II)Z"⟩
def dkwX4_fitsBy_5 : List UInt8 := [4, 172]
abbrev dktX4_fitsBy_5 : List UInt8 := dkwX4_fitsBy_5 ++ []
def dkwX4_fitsBy_4 : List UInt8 := [3, 21, 6, 96, 182, 0, 69, 164, 0, 5, 3, 172, 132, 6, 1, 167, 255, 211, 132, 3, 1, 167, 255, 143]
abbrev dktX4_fitsBy_4 : List UInt8 := dkwX4_fitsBy_4 ++ dktX4_fitsBy_5
def dkwX4_fitsBy_3 : List UInt8 := [162, 0, 42, 42, 21, 6, 21, 4, 182, 1, 42, 42, 21, 6, 21, 5, 182, 1, 42, 100, 184, 0, 243, 42]
abbrev dktX4_fitsBy_3 : List UInt8 := dkwX4_fitsBy_3 ++ dktX4_fitsBy_4
def dkwX4_fitsBy_2 : List UInt8 := [27, 104, 5, 96, 46, 29, 4, 100, 184, 1, 78, 54, 5, 3, 54, 6, 21, 6, 42, 180, 0, 81]
abbrev dktX4_fitsBy_2 : List UInt8 := dkwX4_fitsBy_2 ++ dktX4_fitsBy_3
def dkwX4_fitsBy_1 : List UInt8 := [104, 5, 96, 46, 29, 184, 1, 78, 54, 4, 42, 180, 0, 20, 6, 27, 104, 46, 28, 42, 180, 0, 20, 6]
abbrev dktX4_fitsBy_1 : List UInt8 := dkwX4_fitsBy_1 ++ dktX4_fitsBy_2
def dkwX4_fitsBy_0 : List UInt8 := [4, 62, 29, 17, 3, 232, 162, 0, 112, 42, 180, 0, 20, 6, 27, 104, 46, 28, 42, 180, 0, 20, 6, 27]
abbrev dktX4_fitsBy_0 : List UInt8 := dkwX4_fitsBy_0 ++ dktX4_fitsBy_1
theorem dksX4_fitsBy_0 : cX4_fitsBy.data.toList.drop 0 = dktX4_fitsBy_0 := by decide +kernel
theorem dksX4_fitsBy_1 : cX4_fitsBy.data.toList.drop 24 = dktX4_fitsBy_1 := dk_seg dksX4_fitsBy_0 24 rfl rfl
theorem dksX4_fitsBy_2 : cX4_fitsBy.data.toList.drop 48 = dktX4_fitsBy_2 := dk_seg dksX4_fitsBy_1 24 rfl rfl
theorem dksX4_fitsBy_3 : cX4_fitsBy.data.toList.drop 70 = dktX4_fitsBy_3 := dk_seg dksX4_fitsBy_2 22 rfl rfl
theorem dksX4_fitsBy_4 : cX4_fitsBy.data.toList.drop 94 = dktX4_fitsBy_4 := dk_seg dksX4_fitsBy_3 24 rfl rfl
theorem dksX4_fitsBy_5 : cX4_fitsBy.data.toList.drop 118 = dktX4_fitsBy_5 := dk_seg dksX4_fitsBy_4 24 rfl rfl
theorem dX4_fitsBy_0 : decode cX4_fitsBy 0 = .ok (.iconst 1, 1) := dk_4 (dk_at dksX4_fitsBy_0 0 rfl rfl)
theorem dX4_fitsBy_1 : decode cX4_fitsBy 1 = .ok (.istore_n 3, 1) := dk_62 (dk_at dksX4_fitsBy_0 1 rfl rfl)
theorem dX4_fitsBy_2 : decode cX4_fitsBy 2 = .ok (.iload_n 3, 1) := dk_29 (dk_at dksX4_fitsBy_0 2 rfl rfl)
theorem dX4_fitsBy_3 : decode cX4_fitsBy 3 = .ok (.sipush 1000, 3) := dk_17 3 232 (dk_at dksX4_fitsBy_0 3 rfl rfl)
theorem dX4_fitsBy_6 : decode cX4_fitsBy 6 = .ok (.if_icmp .ge 112, 3) := dk_162 0 112 (dk_at dksX4_fitsBy_0 6 rfl rfl)
theorem dX4_fitsBy_9 : decode cX4_fitsBy 9 = .ok (.aload_n 0, 1) := dk_42 (dk_at dksX4_fitsBy_0 9 rfl rfl)
theorem dX4_fitsBy_10 : decode cX4_fitsBy 10 = .ok (.getfield 20, 3) := dk_180 0 20 (dk_at dksX4_fitsBy_0 10 rfl rfl)
theorem dX4_fitsBy_13 : decode cX4_fitsBy 13 = .ok (.iconst 3, 1) := dk_6 (dk_at dksX4_fitsBy_0 13 rfl rfl)
theorem dX4_fitsBy_14 : decode cX4_fitsBy 14 = .ok (.iload_n 1, 1) := dk_27 (dk_at dksX4_fitsBy_0 14 rfl rfl)
theorem dX4_fitsBy_15 : decode cX4_fitsBy 15 = .ok (.imul, 1) := dk_104 (dk_at dksX4_fitsBy_0 15 rfl rfl)
theorem dX4_fitsBy_16 : decode cX4_fitsBy 16 = .ok (.iaload, 1) := dk_46 (dk_at dksX4_fitsBy_0 16 rfl rfl)
theorem dX4_fitsBy_17 : decode cX4_fitsBy 17 = .ok (.iload_n 2, 1) := dk_28 (dk_at dksX4_fitsBy_0 17 rfl rfl)
theorem dX4_fitsBy_18 : decode cX4_fitsBy 18 = .ok (.aload_n 0, 1) := dk_42 (dk_at dksX4_fitsBy_0 18 rfl rfl)
theorem dX4_fitsBy_19 : decode cX4_fitsBy 19 = .ok (.getfield 20, 3) := dk_180 0 20 (dk_at dksX4_fitsBy_0 19 rfl rfl)
theorem dX4_fitsBy_22 : decode cX4_fitsBy 22 = .ok (.iconst 3, 1) := dk_6 (dk_at dksX4_fitsBy_0 22 rfl rfl)
theorem dX4_fitsBy_23 : decode cX4_fitsBy 23 = .ok (.iload_n 1, 1) := dk_27 (dk_at dksX4_fitsBy_0 23 rfl rfl)
theorem dX4_fitsBy_24 : decode cX4_fitsBy 24 = .ok (.imul, 1) := dk_104 (dk_at dksX4_fitsBy_1 0 rfl rfl)
theorem dX4_fitsBy_25 : decode cX4_fitsBy 25 = .ok (.iconst 2, 1) := dk_5 (dk_at dksX4_fitsBy_1 1 rfl rfl)
theorem dX4_fitsBy_26 : decode cX4_fitsBy 26 = .ok (.iadd, 1) := dk_96 (dk_at dksX4_fitsBy_1 2 rfl rfl)
theorem dX4_fitsBy_27 : decode cX4_fitsBy 27 = .ok (.iaload, 1) := dk_46 (dk_at dksX4_fitsBy_1 3 rfl rfl)
theorem dX4_fitsBy_28 : decode cX4_fitsBy 28 = .ok (.iload_n 3, 1) := dk_29 (dk_at dksX4_fitsBy_1 4 rfl rfl)
theorem dX4_fitsBy_29 : decode cX4_fitsBy 29 = .ok (.invokestatic 334, 3) := dk_184 1 78 (dk_at dksX4_fitsBy_1 5 rfl rfl)
theorem dX4_fitsBy_32 : decode cX4_fitsBy 32 = .ok (.istore 4, 2) := dk_54 4 (dk_at dksX4_fitsBy_1 8 rfl rfl)
theorem dX4_fitsBy_34 : decode cX4_fitsBy 34 = .ok (.aload_n 0, 1) := dk_42 (dk_at dksX4_fitsBy_1 10 rfl rfl)
theorem dX4_fitsBy_35 : decode cX4_fitsBy 35 = .ok (.getfield 20, 3) := dk_180 0 20 (dk_at dksX4_fitsBy_1 11 rfl rfl)
theorem dX4_fitsBy_38 : decode cX4_fitsBy 38 = .ok (.iconst 3, 1) := dk_6 (dk_at dksX4_fitsBy_1 14 rfl rfl)
theorem dX4_fitsBy_39 : decode cX4_fitsBy 39 = .ok (.iload_n 1, 1) := dk_27 (dk_at dksX4_fitsBy_1 15 rfl rfl)
theorem dX4_fitsBy_40 : decode cX4_fitsBy 40 = .ok (.imul, 1) := dk_104 (dk_at dksX4_fitsBy_1 16 rfl rfl)
theorem dX4_fitsBy_41 : decode cX4_fitsBy 41 = .ok (.iaload, 1) := dk_46 (dk_at dksX4_fitsBy_1 17 rfl rfl)
theorem dX4_fitsBy_42 : decode cX4_fitsBy 42 = .ok (.iload_n 2, 1) := dk_28 (dk_at dksX4_fitsBy_1 18 rfl rfl)
theorem dX4_fitsBy_43 : decode cX4_fitsBy 43 = .ok (.aload_n 0, 1) := dk_42 (dk_at dksX4_fitsBy_1 19 rfl rfl)
theorem dX4_fitsBy_44 : decode cX4_fitsBy 44 = .ok (.getfield 20, 3) := dk_180 0 20 (dk_at dksX4_fitsBy_1 20 rfl rfl)
theorem dX4_fitsBy_47 : decode cX4_fitsBy 47 = .ok (.iconst 3, 1) := dk_6 (dk_at dksX4_fitsBy_1 23 rfl rfl)
theorem dX4_fitsBy_48 : decode cX4_fitsBy 48 = .ok (.iload_n 1, 1) := dk_27 (dk_at dksX4_fitsBy_2 0 rfl rfl)
theorem dX4_fitsBy_49 : decode cX4_fitsBy 49 = .ok (.imul, 1) := dk_104 (dk_at dksX4_fitsBy_2 1 rfl rfl)
theorem dX4_fitsBy_50 : decode cX4_fitsBy 50 = .ok (.iconst 2, 1) := dk_5 (dk_at dksX4_fitsBy_2 2 rfl rfl)
theorem dX4_fitsBy_51 : decode cX4_fitsBy 51 = .ok (.iadd, 1) := dk_96 (dk_at dksX4_fitsBy_2 3 rfl rfl)
theorem dX4_fitsBy_52 : decode cX4_fitsBy 52 = .ok (.iaload, 1) := dk_46 (dk_at dksX4_fitsBy_2 4 rfl rfl)
theorem dX4_fitsBy_53 : decode cX4_fitsBy 53 = .ok (.iload_n 3, 1) := dk_29 (dk_at dksX4_fitsBy_2 5 rfl rfl)
theorem dX4_fitsBy_54 : decode cX4_fitsBy 54 = .ok (.iconst 1, 1) := dk_4 (dk_at dksX4_fitsBy_2 6 rfl rfl)
theorem dX4_fitsBy_55 : decode cX4_fitsBy 55 = .ok (.isub, 1) := dk_100 (dk_at dksX4_fitsBy_2 7 rfl rfl)
theorem dX4_fitsBy_56 : decode cX4_fitsBy 56 = .ok (.invokestatic 334, 3) := dk_184 1 78 (dk_at dksX4_fitsBy_2 8 rfl rfl)
theorem dX4_fitsBy_59 : decode cX4_fitsBy 59 = .ok (.istore 5, 2) := dk_54 5 (dk_at dksX4_fitsBy_2 11 rfl rfl)
theorem dX4_fitsBy_61 : decode cX4_fitsBy 61 = .ok (.iconst 0, 1) := dk_3 (dk_at dksX4_fitsBy_2 13 rfl rfl)
theorem dX4_fitsBy_62 : decode cX4_fitsBy 62 = .ok (.istore 6, 2) := dk_54 6 (dk_at dksX4_fitsBy_2 14 rfl rfl)
theorem dX4_fitsBy_64 : decode cX4_fitsBy 64 = .ok (.iload 6, 2) := dk_21 6 (dk_at dksX4_fitsBy_2 16 rfl rfl)
theorem dX4_fitsBy_66 : decode cX4_fitsBy 66 = .ok (.aload_n 0, 1) := dk_42 (dk_at dksX4_fitsBy_2 18 rfl rfl)
theorem dX4_fitsBy_67 : decode cX4_fitsBy 67 = .ok (.getfield 81, 3) := dk_180 0 81 (dk_at dksX4_fitsBy_2 19 rfl rfl)
theorem dX4_fitsBy_70 : decode cX4_fitsBy 70 = .ok (.if_icmp .ge 42, 3) := dk_162 0 42 (dk_at dksX4_fitsBy_3 0 rfl rfl)
theorem dX4_fitsBy_73 : decode cX4_fitsBy 73 = .ok (.aload_n 0, 1) := dk_42 (dk_at dksX4_fitsBy_3 3 rfl rfl)
theorem dX4_fitsBy_74 : decode cX4_fitsBy 74 = .ok (.iload 6, 2) := dk_21 6 (dk_at dksX4_fitsBy_3 4 rfl rfl)
theorem dX4_fitsBy_76 : decode cX4_fitsBy 76 = .ok (.iload 4, 2) := dk_21 4 (dk_at dksX4_fitsBy_3 6 rfl rfl)
theorem dX4_fitsBy_78 : decode cX4_fitsBy 78 = .ok (.invokevirtual 298, 3) := dk_182 1 42 (dk_at dksX4_fitsBy_3 8 rfl rfl)
theorem dX4_fitsBy_81 : decode cX4_fitsBy 81 = .ok (.aload_n 0, 1) := dk_42 (dk_at dksX4_fitsBy_3 11 rfl rfl)
theorem dX4_fitsBy_82 : decode cX4_fitsBy 82 = .ok (.iload 6, 2) := dk_21 6 (dk_at dksX4_fitsBy_3 12 rfl rfl)
theorem dX4_fitsBy_84 : decode cX4_fitsBy 84 = .ok (.iload 5, 2) := dk_21 5 (dk_at dksX4_fitsBy_3 14 rfl rfl)
theorem dX4_fitsBy_86 : decode cX4_fitsBy 86 = .ok (.invokevirtual 298, 3) := dk_182 1 42 (dk_at dksX4_fitsBy_3 16 rfl rfl)
theorem dX4_fitsBy_89 : decode cX4_fitsBy 89 = .ok (.isub, 1) := dk_100 (dk_at dksX4_fitsBy_3 19 rfl rfl)
theorem dX4_fitsBy_90 : decode cX4_fitsBy 90 = .ok (.invokestatic 243, 3) := dk_184 0 243 (dk_at dksX4_fitsBy_3 20 rfl rfl)
theorem dX4_fitsBy_93 : decode cX4_fitsBy 93 = .ok (.aload_n 0, 1) := dk_42 (dk_at dksX4_fitsBy_3 23 rfl rfl)
theorem dX4_fitsBy_94 : decode cX4_fitsBy 94 = .ok (.iconst 0, 1) := dk_3 (dk_at dksX4_fitsBy_4 0 rfl rfl)
theorem dX4_fitsBy_95 : decode cX4_fitsBy 95 = .ok (.iload 6, 2) := dk_21 6 (dk_at dksX4_fitsBy_4 1 rfl rfl)
theorem dX4_fitsBy_97 : decode cX4_fitsBy 97 = .ok (.iadd, 1) := dk_96 (dk_at dksX4_fitsBy_4 3 rfl rfl)
theorem dX4_fitsBy_98 : decode cX4_fitsBy 98 = .ok (.invokevirtual 69, 3) := dk_182 0 69 (dk_at dksX4_fitsBy_4 4 rfl rfl)
theorem dX4_fitsBy_101 : decode cX4_fitsBy 101 = .ok (.if_icmp .le 5, 3) := dk_164 0 5 (dk_at dksX4_fitsBy_4 7 rfl rfl)
theorem dX4_fitsBy_104 : decode cX4_fitsBy 104 = .ok (.iconst 0, 1) := dk_3 (dk_at dksX4_fitsBy_4 10 rfl rfl)
theorem dX4_fitsBy_105 : decode cX4_fitsBy 105 = .ok (.ireturn, 1) := dk_172 (dk_at dksX4_fitsBy_4 11 rfl rfl)
theorem dX4_fitsBy_106 : decode cX4_fitsBy 106 = .ok (.iinc 6 1, 3) := dk_132 6 1 (dk_at dksX4_fitsBy_4 12 rfl rfl)
theorem dX4_fitsBy_109 : decode cX4_fitsBy 109 = .ok (.goto (-45), 3) := dk_167 255 211 (dk_at dksX4_fitsBy_4 15 rfl rfl)
theorem dX4_fitsBy_112 : decode cX4_fitsBy 112 = .ok (.iinc 3 1, 3) := dk_132 3 1 (dk_at dksX4_fitsBy_4 18 rfl rfl)
theorem dX4_fitsBy_115 : decode cX4_fitsBy 115 = .ok (.goto (-113), 3) := dk_167 255 143 (dk_at dksX4_fitsBy_4 21 rfl rfl)
theorem dX4_fitsBy_118 : decode cX4_fitsBy 118 = .ok (.iconst 1, 1) := dk_4 (dk_at dksX4_fitsBy_5 0 rfl rfl)
theorem dX4_fitsBy_119 : decode cX4_fitsBy 119 = .ok (.ireturn, 1) := dk_172 (dk_at dksX4_fitsBy_5 1 rfl rfl)
abbrev cX4_matches : ByteArray := prog_17_method_102_code
def yX4_matches : MethodName := ⟨RX4, "matches", "(II)I"⟩
def dkwX4_matches_2 : List UInt8 := [21, 4, 182, 1, 91, 153, 0, 6, 132, 3, 1, 132, 4, 1, 167, 255, 231, 29, 172]
abbrev dktX4_matches_2 : List UInt8 := dkwX4_matches_2 ++ []
def dkwX4_matches_1 : List UInt8 := [182, 0, 98, 172, 42, 182, 1, 54, 3, 62, 3, 54, 4, 21, 4, 17, 3, 232, 162, 0, 23, 42, 27, 28]
abbrev dktX4_matches_1 : List UInt8 := dkwX4_matches_1 ++ dktX4_matches_2
def dkwX4_matches_0 : List UInt8 := [42, 3, 181, 0, 63, 42, 27, 182, 1, 82, 153, 0, 11, 42, 28, 182, 1, 82, 154, 0, 9, 42, 4]
abbrev dktX4_matches_0 : List UInt8 := dkwX4_matches_0 ++ dktX4_matches_1
theorem dksX4_matches_0 : cX4_matches.data.toList.drop 0 = dktX4_matches_0 := by decide +kernel
theorem dksX4_matches_1 : cX4_matches.data.toList.drop 23 = dktX4_matches_1 := dk_seg dksX4_matches_0 23 rfl rfl
theorem dksX4_matches_2 : cX4_matches.data.toList.drop 47 = dktX4_matches_2 := dk_seg dksX4_matches_1 24 rfl rfl
theorem dX4_matches_0 : decode cX4_matches 0 = .ok (.aload_n 0, 1) := dk_42 (dk_at dksX4_matches_0 0 rfl rfl)
theorem dX4_matches_1 : decode cX4_matches 1 = .ok (.iconst 0, 1) := dk_3 (dk_at dksX4_matches_0 1 rfl rfl)
theorem dX4_matches_2 : decode cX4_matches 2 = .ok (.putfield 63, 3) := dk_181 0 63 (dk_at dksX4_matches_0 2 rfl rfl)
theorem dX4_matches_5 : decode cX4_matches 5 = .ok (.aload_n 0, 1) := dk_42 (dk_at dksX4_matches_0 5 rfl rfl)
theorem dX4_matches_6 : decode cX4_matches 6 = .ok (.iload_n 1, 1) := dk_27 (dk_at dksX4_matches_0 6 rfl rfl)
theorem dX4_matches_7 : decode cX4_matches 7 = .ok (.invokevirtual 338, 3) := dk_182 1 82 (dk_at dksX4_matches_0 7 rfl rfl)
theorem dX4_matches_10 : decode cX4_matches 10 = .ok (.ifCond .eq 11, 3) := dk_153 0 11 (dk_at dksX4_matches_0 10 rfl rfl)
theorem dX4_matches_13 : decode cX4_matches 13 = .ok (.aload_n 0, 1) := dk_42 (dk_at dksX4_matches_0 13 rfl rfl)
theorem dX4_matches_14 : decode cX4_matches 14 = .ok (.iload_n 2, 1) := dk_28 (dk_at dksX4_matches_0 14 rfl rfl)
theorem dX4_matches_15 : decode cX4_matches 15 = .ok (.invokevirtual 338, 3) := dk_182 1 82 (dk_at dksX4_matches_0 15 rfl rfl)
theorem dX4_matches_18 : decode cX4_matches 18 = .ok (.ifCond .ne 9, 3) := dk_154 0 9 (dk_at dksX4_matches_0 18 rfl rfl)
theorem dX4_matches_21 : decode cX4_matches 21 = .ok (.aload_n 0, 1) := dk_42 (dk_at dksX4_matches_0 21 rfl rfl)
theorem dX4_matches_22 : decode cX4_matches 22 = .ok (.iconst 1, 1) := dk_4 (dk_at dksX4_matches_0 22 rfl rfl)
theorem dX4_matches_23 : decode cX4_matches 23 = .ok (.invokevirtual 98, 3) := dk_182 0 98 (dk_at dksX4_matches_1 0 rfl rfl)
theorem dX4_matches_26 : decode cX4_matches 26 = .ok (.ireturn, 1) := dk_172 (dk_at dksX4_matches_1 3 rfl rfl)
theorem dX4_matches_27 : decode cX4_matches 27 = .ok (.aload_n 0, 1) := dk_42 (dk_at dksX4_matches_1 4 rfl rfl)
theorem dX4_matches_28 : decode cX4_matches 28 = .ok (.invokevirtual 310, 3) := dk_182 1 54 (dk_at dksX4_matches_1 5 rfl rfl)
theorem dX4_matches_31 : decode cX4_matches 31 = .ok (.iconst 0, 1) := dk_3 (dk_at dksX4_matches_1 8 rfl rfl)
theorem dX4_matches_32 : decode cX4_matches 32 = .ok (.istore_n 3, 1) := dk_62 (dk_at dksX4_matches_1 9 rfl rfl)
theorem dX4_matches_33 : decode cX4_matches 33 = .ok (.iconst 0, 1) := dk_3 (dk_at dksX4_matches_1 10 rfl rfl)
theorem dX4_matches_34 : decode cX4_matches 34 = .ok (.istore 4, 2) := dk_54 4 (dk_at dksX4_matches_1 11 rfl rfl)
theorem dX4_matches_36 : decode cX4_matches 36 = .ok (.iload 4, 2) := dk_21 4 (dk_at dksX4_matches_1 13 rfl rfl)
theorem dX4_matches_38 : decode cX4_matches 38 = .ok (.sipush 1000, 3) := dk_17 3 232 (dk_at dksX4_matches_1 15 rfl rfl)
theorem dX4_matches_41 : decode cX4_matches 41 = .ok (.if_icmp .ge 23, 3) := dk_162 0 23 (dk_at dksX4_matches_1 18 rfl rfl)
theorem dX4_matches_44 : decode cX4_matches 44 = .ok (.aload_n 0, 1) := dk_42 (dk_at dksX4_matches_1 21 rfl rfl)
theorem dX4_matches_45 : decode cX4_matches 45 = .ok (.iload_n 1, 1) := dk_27 (dk_at dksX4_matches_1 22 rfl rfl)
theorem dX4_matches_46 : decode cX4_matches 46 = .ok (.iload_n 2, 1) := dk_28 (dk_at dksX4_matches_1 23 rfl rfl)
theorem dX4_matches_47 : decode cX4_matches 47 = .ok (.iload 4, 2) := dk_21 4 (dk_at dksX4_matches_2 0 rfl rfl)
theorem dX4_matches_49 : decode cX4_matches 49 = .ok (.invokevirtual 347, 3) := dk_182 1 91 (dk_at dksX4_matches_2 2 rfl rfl)
theorem dX4_matches_52 : decode cX4_matches 52 = .ok (.ifCond .eq 6, 3) := dk_153 0 6 (dk_at dksX4_matches_2 5 rfl rfl)
theorem dX4_matches_55 : decode cX4_matches 55 = .ok (.iinc 3 1, 3) := dk_132 3 1 (dk_at dksX4_matches_2 8 rfl rfl)
theorem dX4_matches_58 : decode cX4_matches 58 = .ok (.iinc 4 1, 3) := dk_132 4 1 (dk_at dksX4_matches_2 11 rfl rfl)
theorem dX4_matches_61 : decode cX4_matches 61 = .ok (.goto (-25), 3) := dk_167 255 231 (dk_at dksX4_matches_2 14 rfl rfl)
theorem dX4_matches_64 : decode cX4_matches 64 = .ok (.iload_n 3, 1) := dk_29 (dk_at dksX4_matches_2 17 rfl rfl)
theorem dX4_matches_65 : decode cX4_matches 65 = .ok (.ireturn, 1) := dk_172 (dk_at dksX4_matches_2 18 rfl rfl)
abbrev cX4_areAlike : ByteArray := prog_17_method_101_code
def yX4_areAlike : MethodName := ⟨RX4, "areAlike", "(III)Z"⟩
def dkwX4_areAlike_2 : List UInt8 := [172]
abbrev dktX4_areAlike_2 : List UInt8 := dkwX4_areAlike_2 ++ []
def dkwX4_areAlike_1 : List UInt8 := [42, 21, 4, 42, 28, 29, 182, 1, 85, 182, 1, 42, 159, 0, 5, 3, 172, 132, 4, 1, 167, 255, 215, 4]
abbrev dktX4_areAlike_1 : List UInt8 := dkwX4_areAlike_1 ++ dktX4_areAlike_2
def dkwX4_areAlike_0 : List UInt8 := [3, 54, 4, 21, 4, 42, 180, 0, 81, 162, 0, 38, 42, 21, 4, 42, 27, 29, 182, 1, 85, 182, 1, 42]
abbrev dktX4_areAlike_0 : List UInt8 := dkwX4_areAlike_0 ++ dktX4_areAlike_1
theorem dksX4_areAlike_0 : cX4_areAlike.data.toList.drop 0 = dktX4_areAlike_0 := by decide +kernel
theorem dksX4_areAlike_1 : cX4_areAlike.data.toList.drop 24 = dktX4_areAlike_1 := dk_seg dksX4_areAlike_0 24 rfl rfl
theorem dksX4_areAlike_2 : cX4_areAlike.data.toList.drop 48 = dktX4_areAlike_2 := dk_seg dksX4_areAlike_1 24 rfl rfl
theorem dX4_areAlike_0 : decode cX4_areAlike 0 = .ok (.iconst 0, 1) := dk_3 (dk_at dksX4_areAlike_0 0 rfl rfl)
theorem dX4_areAlike_1 : decode cX4_areAlike 1 = .ok (.istore 4, 2) := dk_54 4 (dk_at dksX4_areAlike_0 1 rfl rfl)
theorem dX4_areAlike_3 : decode cX4_areAlike 3 = .ok (.iload 4, 2) := dk_21 4 (dk_at dksX4_areAlike_0 3 rfl rfl)
theorem dX4_areAlike_5 : decode cX4_areAlike 5 = .ok (.aload_n 0, 1) := dk_42 (dk_at dksX4_areAlike_0 5 rfl rfl)
theorem dX4_areAlike_6 : decode cX4_areAlike 6 = .ok (.getfield 81, 3) := dk_180 0 81 (dk_at dksX4_areAlike_0 6 rfl rfl)
theorem dX4_areAlike_9 : decode cX4_areAlike 9 = .ok (.if_icmp .ge 38, 3) := dk_162 0 38 (dk_at dksX4_areAlike_0 9 rfl rfl)
theorem dX4_areAlike_12 : decode cX4_areAlike 12 = .ok (.aload_n 0, 1) := dk_42 (dk_at dksX4_areAlike_0 12 rfl rfl)
theorem dX4_areAlike_13 : decode cX4_areAlike 13 = .ok (.iload 4, 2) := dk_21 4 (dk_at dksX4_areAlike_0 13 rfl rfl)
theorem dX4_areAlike_15 : decode cX4_areAlike 15 = .ok (.aload_n 0, 1) := dk_42 (dk_at dksX4_areAlike_0 15 rfl rfl)
theorem dX4_areAlike_16 : decode cX4_areAlike 16 = .ok (.iload_n 1, 1) := dk_27 (dk_at dksX4_areAlike_0 16 rfl rfl)
theorem dX4_areAlike_17 : decode cX4_areAlike 17 = .ok (.iload_n 3, 1) := dk_29 (dk_at dksX4_areAlike_0 17 rfl rfl)
theorem dX4_areAlike_18 : decode cX4_areAlike 18 = .ok (.invokevirtual 341, 3) := dk_182 1 85 (dk_at dksX4_areAlike_0 18 rfl rfl)
theorem dX4_areAlike_21 : decode cX4_areAlike 21 = .ok (.invokevirtual 298, 3) := dk_182 1 42 (dk_at dksX4_areAlike_0 21 rfl rfl)
theorem dX4_areAlike_24 : decode cX4_areAlike 24 = .ok (.aload_n 0, 1) := dk_42 (dk_at dksX4_areAlike_1 0 rfl rfl)
theorem dX4_areAlike_25 : decode cX4_areAlike 25 = .ok (.iload 4, 2) := dk_21 4 (dk_at dksX4_areAlike_1 1 rfl rfl)
theorem dX4_areAlike_27 : decode cX4_areAlike 27 = .ok (.aload_n 0, 1) := dk_42 (dk_at dksX4_areAlike_1 3 rfl rfl)
theorem dX4_areAlike_28 : decode cX4_areAlike 28 = .ok (.iload_n 2, 1) := dk_28 (dk_at dksX4_areAlike_1 4 rfl rfl)
theorem dX4_areAlike_29 : decode cX4_areAlike 29 = .ok (.iload_n 3, 1) := dk_29 (dk_at dksX4_areAlike_1 5 rfl rfl)
theorem dX4_areAlike_30 : decode cX4_areAlike 30 = .ok (.invokevirtual 341, 3) := dk_182 1 85 (dk_at dksX4_areAlike_1 6 rfl rfl)
theorem dX4_areAlike_33 : decode cX4_areAlike 33 = .ok (.invokevirtual 298, 3) := dk_182 1 42 (dk_at dksX4_areAlike_1 9 rfl rfl)
theorem dX4_areAlike_36 : decode cX4_areAlike 36 = .ok (.if_icmp .eq 5, 3) := dk_159 0 5 (dk_at dksX4_areAlike_1 12 rfl rfl)
theorem dX4_areAlike_39 : decode cX4_areAlike 39 = .ok (.iconst 0, 1) := dk_3 (dk_at dksX4_areAlike_1 15 rfl rfl)
theorem dX4_areAlike_40 : decode cX4_areAlike 40 = .ok (.ireturn, 1) := dk_172 (dk_at dksX4_areAlike_1 16 rfl rfl)
theorem dX4_areAlike_41 : decode cX4_areAlike 41 = .ok (.iinc 4 1, 3) := dk_132 4 1 (dk_at dksX4_areAlike_1 17 rfl rfl)
theorem dX4_areAlike_44 : decode cX4_areAlike 44 = .ok (.goto (-41), 3) := dk_167 255 215 (dk_at dksX4_areAlike_1 20 rfl rfl)
theorem dX4_areAlike_47 : decode cX4_areAlike 47 = .ok (.iconst 1, 1) := dk_4 (dk_at dksX4_areAlike_1 23 rfl rfl)
theorem dX4_areAlike_48 : decode cX4_areAlike 48 = .ok (.ireturn, 1) := dk_172 (dk_at dksX4_areAlike_2 0 rfl rfl)
abbrev cX4_mismatch : ByteArray := prog_17_method_103_code
def yX4_mismatch : MethodName := ⟨RX4, "mismatch", "(II)I"⟩
def dkwX4_mismatch_2 : List UInt8 := [154, 0, 5, 29, 172, 132, 3, 1, 167, 255, 234, 2, 172]
abbrev dktX4_mismatch_2 : List UInt8 := dkwX4_mismatch_2 ++ []
def dkwX4_mismatch_1 : List UInt8 := [182, 0, 98, 172, 42, 182, 1, 54, 3, 62, 29, 17, 3, 232, 162, 0, 21, 42, 27, 28, 29, 182, 1, 91]
abbrev dktX4_mismatch_1 : List UInt8 := dkwX4_mismatch_1 ++ dktX4_mismatch_2
def dkwX4_mismatch_0 : List UInt8 := [42, 3, 181, 0, 63, 42, 27, 182, 1, 82, 153, 0, 11, 42, 28, 182, 1, 82, 154, 0, 9, 42, 4]
abbrev dktX4_mismatch_0 : List UInt8 := dkwX4_mismatch_0 ++ dktX4_mismatch_1
theorem dksX4_mismatch_0 : cX4_mismatch.data.toList.drop 0 = dktX4_mismatch_0 := by decide +kernel
theorem dksX4_mismatch_1 : cX4_mismatch.data.toList.drop 23 = dktX4_mismatch_1 := dk_seg dksX4_mismatch_0 23 rfl rfl
theorem dksX4_mismatch_2 : cX4_mismatch.data.toList.drop 47 = dktX4_mismatch_2 := dk_seg dksX4_mismatch_1 24 rfl rfl
theorem dX4_mismatch_0 : decode cX4_mismatch 0 = .ok (.aload_n 0, 1) := dk_42 (dk_at dksX4_mismatch_0 0 rfl rfl)
theorem dX4_mismatch_1 : decode cX4_mismatch 1 = .ok (.iconst 0, 1) := dk_3 (dk_at dksX4_mismatch_0 1 rfl rfl)
theorem dX4_mismatch_2 : decode cX4_mismatch 2 = .ok (.putfield 63, 3) := dk_181 0 63 (dk_at dksX4_mismatch_0 2 rfl rfl)
theorem dX4_mismatch_5 : decode cX4_mismatch 5 = .ok (.aload_n 0, 1) := dk_42 (dk_at dksX4_mismatch_0 5 rfl rfl)
theorem dX4_mismatch_6 : decode cX4_mismatch 6 = .ok (.iload_n 1, 1) := dk_27 (dk_at dksX4_mismatch_0 6 rfl rfl)
theorem dX4_mismatch_7 : decode cX4_mismatch 7 = .ok (.invokevirtual 338, 3) := dk_182 1 82 (dk_at dksX4_mismatch_0 7 rfl rfl)
theorem dX4_mismatch_10 : decode cX4_mismatch 10 = .ok (.ifCond .eq 11, 3) := dk_153 0 11 (dk_at dksX4_mismatch_0 10 rfl rfl)
theorem dX4_mismatch_13 : decode cX4_mismatch 13 = .ok (.aload_n 0, 1) := dk_42 (dk_at dksX4_mismatch_0 13 rfl rfl)
theorem dX4_mismatch_14 : decode cX4_mismatch 14 = .ok (.iload_n 2, 1) := dk_28 (dk_at dksX4_mismatch_0 14 rfl rfl)
theorem dX4_mismatch_15 : decode cX4_mismatch 15 = .ok (.invokevirtual 338, 3) := dk_182 1 82 (dk_at dksX4_mismatch_0 15 rfl rfl)
theorem dX4_mismatch_18 : decode cX4_mismatch 18 = .ok (.ifCond .ne 9, 3) := dk_154 0 9 (dk_at dksX4_mismatch_0 18 rfl rfl)
theorem dX4_mismatch_21 : decode cX4_mismatch 21 = .ok (.aload_n 0, 1) := dk_42 (dk_at dksX4_mismatch_0 21 rfl rfl)
theorem dX4_mismatch_22 : decode cX4_mismatch 22 = .ok (.iconst 1, 1) := dk_4 (dk_at dksX4_mismatch_0 22 rfl rfl)
theorem dX4_mismatch_23 : decode cX4_mismatch 23 = .ok (.invokevirtual 98, 3) := dk_182 0 98 (dk_at dksX4_mismatch_1 0 rfl rfl)
theorem dX4_mismatch_26 : decode cX4_mismatch 26 = .ok (.ireturn, 1) := dk_172 (dk_at dksX4_mismatch_1 3 rfl rfl)
theorem dX4_mismatch_27 : decode cX4_mismatch 27 = .ok (.aload_n 0, 1) := dk_42 (dk_at dksX4_mismatch_1 4 rfl rfl)
theorem dX4_mismatch_28 : decode cX4_mismatch 28 = .ok (.invokevirtual 310, 3) := dk_182 1 54 (dk_at dksX4_mismatch_1 5 rfl rfl)
theorem dX4_mismatch_31 : decode cX4_mismatch 31 = .ok (.iconst 0, 1) := dk_3 (dk_at dksX4_mismatch_1 8 rfl rfl)
theorem dX4_mismatch_32 : decode cX4_mismatch 32 = .ok (.istore_n 3, 1) := dk_62 (dk_at dksX4_mismatch_1 9 rfl rfl)
theorem dX4_mismatch_33 : decode cX4_mismatch 33 = .ok (.iload_n 3, 1) := dk_29 (dk_at dksX4_mismatch_1 10 rfl rfl)
theorem dX4_mismatch_34 : decode cX4_mismatch 34 = .ok (.sipush 1000, 3) := dk_17 3 232 (dk_at dksX4_mismatch_1 11 rfl rfl)
theorem dX4_mismatch_37 : decode cX4_mismatch 37 = .ok (.if_icmp .ge 21, 3) := dk_162 0 21 (dk_at dksX4_mismatch_1 14 rfl rfl)
theorem dX4_mismatch_40 : decode cX4_mismatch 40 = .ok (.aload_n 0, 1) := dk_42 (dk_at dksX4_mismatch_1 17 rfl rfl)
theorem dX4_mismatch_41 : decode cX4_mismatch 41 = .ok (.iload_n 1, 1) := dk_27 (dk_at dksX4_mismatch_1 18 rfl rfl)
theorem dX4_mismatch_42 : decode cX4_mismatch 42 = .ok (.iload_n 2, 1) := dk_28 (dk_at dksX4_mismatch_1 19 rfl rfl)
theorem dX4_mismatch_43 : decode cX4_mismatch 43 = .ok (.iload_n 3, 1) := dk_29 (dk_at dksX4_mismatch_1 20 rfl rfl)
theorem dX4_mismatch_44 : decode cX4_mismatch 44 = .ok (.invokevirtual 347, 3) := dk_182 1 91 (dk_at dksX4_mismatch_1 21 rfl rfl)
theorem dX4_mismatch_47 : decode cX4_mismatch 47 = .ok (.ifCond .ne 5, 3) := dk_154 0 5 (dk_at dksX4_mismatch_2 0 rfl rfl)
theorem dX4_mismatch_50 : decode cX4_mismatch 50 = .ok (.iload_n 3, 1) := dk_29 (dk_at dksX4_mismatch_2 3 rfl rfl)
theorem dX4_mismatch_51 : decode cX4_mismatch 51 = .ok (.ireturn, 1) := dk_172 (dk_at dksX4_mismatch_2 4 rfl rfl)
theorem dX4_mismatch_52 : decode cX4_mismatch 52 = .ok (.iinc 3 1, 3) := dk_132 3 1 (dk_at dksX4_mismatch_2 5 rfl rfl)
theorem dX4_mismatch_55 : decode cX4_mismatch 55 = .ok (.goto (-22), 3) := dk_167 255 234 (dk_at dksX4_mismatch_2 8 rfl rfl)
theorem dX4_mismatch_58 : decode cX4_mismatch 58 = .ok (.iconst (-1), 1) := dk_2 (dk_at dksX4_mismatch_2 11 rfl rfl)
theorem dX4_mismatch_59 : decode cX4_mismatch 59 = .ok (.ireturn, 1) := dk_172 (dk_at dksX4_mismatch_2 12 rfl rfl)
abbrev cX4_fittingDen : ByteArray := prog_17_method_104_code
def yX4_fittingDen : MethodName := ⟨RX4, "fittingDen", "(I)I"⟩
def dkwX4_fittingDen_2 : List UInt8 := [2, 172]
abbrev dktX4_fittingDen_2 : List UInt8 := dkwX4_fittingDen_2 ++ []
def dkwX4_fittingDen_1 : List UInt8 := [61, 28, 16, 9, 163, 0, 20, 42, 27, 28, 182, 1, 88, 153, 0, 5, 28, 172, 132, 2, 1, 167, 255, 236]
abbrev dktX4_fittingDen_1 : List UInt8 := dkwX4_fittingDen_1 ++ dktX4_fittingDen_2
def dkwX4_fittingDen_0 : List UInt8 := [42, 3, 181, 0, 63, 42, 27, 182, 1, 82, 154, 0, 9, 42, 4, 182, 0, 98, 172, 42, 182, 1, 54, 4]
abbrev dktX4_fittingDen_0 : List UInt8 := dkwX4_fittingDen_0 ++ dktX4_fittingDen_1
theorem dksX4_fittingDen_0 : cX4_fittingDen.data.toList.drop 0 = dktX4_fittingDen_0 := by decide +kernel
theorem dksX4_fittingDen_1 : cX4_fittingDen.data.toList.drop 24 = dktX4_fittingDen_1 := dk_seg dksX4_fittingDen_0 24 rfl rfl
theorem dksX4_fittingDen_2 : cX4_fittingDen.data.toList.drop 48 = dktX4_fittingDen_2 := dk_seg dksX4_fittingDen_1 24 rfl rfl
theorem dX4_fittingDen_0 : decode cX4_fittingDen 0 = .ok (.aload_n 0, 1) := dk_42 (dk_at dksX4_fittingDen_0 0 rfl rfl)
theorem dX4_fittingDen_1 : decode cX4_fittingDen 1 = .ok (.iconst 0, 1) := dk_3 (dk_at dksX4_fittingDen_0 1 rfl rfl)
theorem dX4_fittingDen_2 : decode cX4_fittingDen 2 = .ok (.putfield 63, 3) := dk_181 0 63 (dk_at dksX4_fittingDen_0 2 rfl rfl)
theorem dX4_fittingDen_5 : decode cX4_fittingDen 5 = .ok (.aload_n 0, 1) := dk_42 (dk_at dksX4_fittingDen_0 5 rfl rfl)
theorem dX4_fittingDen_6 : decode cX4_fittingDen 6 = .ok (.iload_n 1, 1) := dk_27 (dk_at dksX4_fittingDen_0 6 rfl rfl)
theorem dX4_fittingDen_7 : decode cX4_fittingDen 7 = .ok (.invokevirtual 338, 3) := dk_182 1 82 (dk_at dksX4_fittingDen_0 7 rfl rfl)
theorem dX4_fittingDen_10 : decode cX4_fittingDen 10 = .ok (.ifCond .ne 9, 3) := dk_154 0 9 (dk_at dksX4_fittingDen_0 10 rfl rfl)
theorem dX4_fittingDen_13 : decode cX4_fittingDen 13 = .ok (.aload_n 0, 1) := dk_42 (dk_at dksX4_fittingDen_0 13 rfl rfl)
theorem dX4_fittingDen_14 : decode cX4_fittingDen 14 = .ok (.iconst 1, 1) := dk_4 (dk_at dksX4_fittingDen_0 14 rfl rfl)
theorem dX4_fittingDen_15 : decode cX4_fittingDen 15 = .ok (.invokevirtual 98, 3) := dk_182 0 98 (dk_at dksX4_fittingDen_0 15 rfl rfl)
theorem dX4_fittingDen_18 : decode cX4_fittingDen 18 = .ok (.ireturn, 1) := dk_172 (dk_at dksX4_fittingDen_0 18 rfl rfl)
theorem dX4_fittingDen_19 : decode cX4_fittingDen 19 = .ok (.aload_n 0, 1) := dk_42 (dk_at dksX4_fittingDen_0 19 rfl rfl)
theorem dX4_fittingDen_20 : decode cX4_fittingDen 20 = .ok (.invokevirtual 310, 3) := dk_182 1 54 (dk_at dksX4_fittingDen_0 20 rfl rfl)
theorem dX4_fittingDen_23 : decode cX4_fittingDen 23 = .ok (.iconst 1, 1) := dk_4 (dk_at dksX4_fittingDen_0 23 rfl rfl)
theorem dX4_fittingDen_24 : decode cX4_fittingDen 24 = .ok (.istore_n 2, 1) := dk_61 (dk_at dksX4_fittingDen_1 0 rfl rfl)
theorem dX4_fittingDen_25 : decode cX4_fittingDen 25 = .ok (.iload_n 2, 1) := dk_28 (dk_at dksX4_fittingDen_1 1 rfl rfl)
theorem dX4_fittingDen_26 : decode cX4_fittingDen 26 = .ok (.bipush 9, 2) := dk_16 9 (dk_at dksX4_fittingDen_1 2 rfl rfl)
theorem dX4_fittingDen_28 : decode cX4_fittingDen 28 = .ok (.if_icmp .gt 20, 3) := dk_163 0 20 (dk_at dksX4_fittingDen_1 4 rfl rfl)
theorem dX4_fittingDen_31 : decode cX4_fittingDen 31 = .ok (.aload_n 0, 1) := dk_42 (dk_at dksX4_fittingDen_1 7 rfl rfl)
theorem dX4_fittingDen_32 : decode cX4_fittingDen 32 = .ok (.iload_n 1, 1) := dk_27 (dk_at dksX4_fittingDen_1 8 rfl rfl)
theorem dX4_fittingDen_33 : decode cX4_fittingDen 33 = .ok (.iload_n 2, 1) := dk_28 (dk_at dksX4_fittingDen_1 9 rfl rfl)
theorem dX4_fittingDen_34 : decode cX4_fittingDen 34 = .ok (.invokevirtual 344, 3) := dk_182 1 88 (dk_at dksX4_fittingDen_1 10 rfl rfl)
theorem dX4_fittingDen_37 : decode cX4_fittingDen 37 = .ok (.ifCond .eq 5, 3) := dk_153 0 5 (dk_at dksX4_fittingDen_1 13 rfl rfl)
theorem dX4_fittingDen_40 : decode cX4_fittingDen 40 = .ok (.iload_n 2, 1) := dk_28 (dk_at dksX4_fittingDen_1 16 rfl rfl)
theorem dX4_fittingDen_41 : decode cX4_fittingDen 41 = .ok (.ireturn, 1) := dk_172 (dk_at dksX4_fittingDen_1 17 rfl rfl)
theorem dX4_fittingDen_42 : decode cX4_fittingDen 42 = .ok (.iinc 2 1, 3) := dk_132 2 1 (dk_at dksX4_fittingDen_1 18 rfl rfl)
theorem dX4_fittingDen_45 : decode cX4_fittingDen 45 = .ok (.goto (-20), 3) := dk_167 255 236 (dk_at dksX4_fittingDen_1 21 rfl rfl)
theorem dX4_fittingDen_48 : decode cX4_fittingDen 48 = .ok (.iconst (-1), 1) := dk_2 (dk_at dksX4_fittingDen_2 0 rfl rfl)
theorem dX4_fittingDen_49 : decode cX4_fittingDen 49 = .ok (.ireturn, 1) := dk_172 (dk_at dksX4_fittingDen_2 1 rfl rfl)
abbrev cX4_earliest : ByteArray := prog_17_method_108_code
def yX4_earliest : MethodName := ⟨RX4, "earliest", "(I)I"⟩
def dkwX4_earliest_3 : List UInt8 := [181, 0, 66, 28, 172]
abbrev dktX4_earliest_3 : List UInt8 := dkwX4_earliest_3 ++ []
def dkwX4_earliest_2 : List UInt8 := [3, 29, 182, 1, 97, 42, 27, 182, 1, 100, 153, 0, 5, 29, 61, 132, 3, 1, 167, 255, 217, 42, 3]
abbrev dktX4_earliest_2 : List UInt8 := dkwX4_earliest_2 ++ dktX4_earliest_3
def dkwX4_earliest_1 : List UInt8 := [61, 3, 62, 29, 17, 3, 231, 42, 27, 4, 182, 0, 77, 100, 163, 0, 31, 28, 2, 160, 0, 26, 42, 27]
abbrev dktX4_earliest_1 : List UInt8 := dkwX4_earliest_1 ++ dktX4_earliest_2
def dkwX4_earliest_0 : List UInt8 := [42, 3, 181, 0, 63, 42, 27, 182, 0, 229, 154, 0, 9, 42, 4, 182, 0, 98, 172, 42, 182, 1, 94, 2]
abbrev dktX4_earliest_0 : List UInt8 := dkwX4_earliest_0 ++ dktX4_earliest_1
theorem dksX4_earliest_0 : cX4_earliest.data.toList.drop 0 = dktX4_earliest_0 := by decide +kernel
theorem dksX4_earliest_1 : cX4_earliest.data.toList.drop 24 = dktX4_earliest_1 := dk_seg dksX4_earliest_0 24 rfl rfl
theorem dksX4_earliest_2 : cX4_earliest.data.toList.drop 48 = dktX4_earliest_2 := dk_seg dksX4_earliest_1 24 rfl rfl
theorem dksX4_earliest_3 : cX4_earliest.data.toList.drop 71 = dktX4_earliest_3 := dk_seg dksX4_earliest_2 23 rfl rfl
theorem dX4_earliest_0 : decode cX4_earliest 0 = .ok (.aload_n 0, 1) := dk_42 (dk_at dksX4_earliest_0 0 rfl rfl)
theorem dX4_earliest_1 : decode cX4_earliest 1 = .ok (.iconst 0, 1) := dk_3 (dk_at dksX4_earliest_0 1 rfl rfl)
theorem dX4_earliest_2 : decode cX4_earliest 2 = .ok (.putfield 63, 3) := dk_181 0 63 (dk_at dksX4_earliest_0 2 rfl rfl)
theorem dX4_earliest_5 : decode cX4_earliest 5 = .ok (.aload_n 0, 1) := dk_42 (dk_at dksX4_earliest_0 5 rfl rfl)
theorem dX4_earliest_6 : decode cX4_earliest 6 = .ok (.iload_n 1, 1) := dk_27 (dk_at dksX4_earliest_0 6 rfl rfl)
theorem dX4_earliest_7 : decode cX4_earliest 7 = .ok (.invokevirtual 229, 3) := dk_182 0 229 (dk_at dksX4_earliest_0 7 rfl rfl)
theorem dX4_earliest_10 : decode cX4_earliest 10 = .ok (.ifCond .ne 9, 3) := dk_154 0 9 (dk_at dksX4_earliest_0 10 rfl rfl)
theorem dX4_earliest_13 : decode cX4_earliest 13 = .ok (.aload_n 0, 1) := dk_42 (dk_at dksX4_earliest_0 13 rfl rfl)
theorem dX4_earliest_14 : decode cX4_earliest 14 = .ok (.iconst 1, 1) := dk_4 (dk_at dksX4_earliest_0 14 rfl rfl)
theorem dX4_earliest_15 : decode cX4_earliest 15 = .ok (.invokevirtual 98, 3) := dk_182 0 98 (dk_at dksX4_earliest_0 15 rfl rfl)
theorem dX4_earliest_18 : decode cX4_earliest 18 = .ok (.ireturn, 1) := dk_172 (dk_at dksX4_earliest_0 18 rfl rfl)
theorem dX4_earliest_19 : decode cX4_earliest 19 = .ok (.aload_n 0, 1) := dk_42 (dk_at dksX4_earliest_0 19 rfl rfl)
theorem dX4_earliest_20 : decode cX4_earliest 20 = .ok (.invokevirtual 350, 3) := dk_182 1 94 (dk_at dksX4_earliest_0 20 rfl rfl)
theorem dX4_earliest_23 : decode cX4_earliest 23 = .ok (.iconst (-1), 1) := dk_2 (dk_at dksX4_earliest_0 23 rfl rfl)
theorem dX4_earliest_24 : decode cX4_earliest 24 = .ok (.istore_n 2, 1) := dk_61 (dk_at dksX4_earliest_1 0 rfl rfl)
theorem dX4_earliest_25 : decode cX4_earliest 25 = .ok (.iconst 0, 1) := dk_3 (dk_at dksX4_earliest_1 1 rfl rfl)
theorem dX4_earliest_26 : decode cX4_earliest 26 = .ok (.istore_n 3, 1) := dk_62 (dk_at dksX4_earliest_1 2 rfl rfl)
theorem dX4_earliest_27 : decode cX4_earliest 27 = .ok (.iload_n 3, 1) := dk_29 (dk_at dksX4_earliest_1 3 rfl rfl)
theorem dX4_earliest_28 : decode cX4_earliest 28 = .ok (.sipush 999, 3) := dk_17 3 231 (dk_at dksX4_earliest_1 4 rfl rfl)
theorem dX4_earliest_31 : decode cX4_earliest 31 = .ok (.aload_n 0, 1) := dk_42 (dk_at dksX4_earliest_1 7 rfl rfl)
theorem dX4_earliest_32 : decode cX4_earliest 32 = .ok (.iload_n 1, 1) := dk_27 (dk_at dksX4_earliest_1 8 rfl rfl)
theorem dX4_earliest_33 : decode cX4_earliest 33 = .ok (.iconst 1, 1) := dk_4 (dk_at dksX4_earliest_1 9 rfl rfl)
theorem dX4_earliest_34 : decode cX4_earliest 34 = .ok (.invokevirtual 77, 3) := dk_182 0 77 (dk_at dksX4_earliest_1 10 rfl rfl)
theorem dX4_earliest_37 : decode cX4_earliest 37 = .ok (.isub, 1) := dk_100 (dk_at dksX4_earliest_1 13 rfl rfl)
theorem dX4_earliest_38 : decode cX4_earliest 38 = .ok (.if_icmp .gt 31, 3) := dk_163 0 31 (dk_at dksX4_earliest_1 14 rfl rfl)
theorem dX4_earliest_41 : decode cX4_earliest 41 = .ok (.iload_n 2, 1) := dk_28 (dk_at dksX4_earliest_1 17 rfl rfl)
theorem dX4_earliest_42 : decode cX4_earliest 42 = .ok (.iconst (-1), 1) := dk_2 (dk_at dksX4_earliest_1 18 rfl rfl)
theorem dX4_earliest_43 : decode cX4_earliest 43 = .ok (.if_icmp .ne 26, 3) := dk_160 0 26 (dk_at dksX4_earliest_1 19 rfl rfl)
theorem dX4_earliest_46 : decode cX4_earliest 46 = .ok (.aload_n 0, 1) := dk_42 (dk_at dksX4_earliest_1 22 rfl rfl)
theorem dX4_earliest_47 : decode cX4_earliest 47 = .ok (.iload_n 1, 1) := dk_27 (dk_at dksX4_earliest_1 23 rfl rfl)
theorem dX4_earliest_48 : decode cX4_earliest 48 = .ok (.iconst 0, 1) := dk_3 (dk_at dksX4_earliest_2 0 rfl rfl)
theorem dX4_earliest_49 : decode cX4_earliest 49 = .ok (.iload_n 3, 1) := dk_29 (dk_at dksX4_earliest_2 1 rfl rfl)
theorem dX4_earliest_50 : decode cX4_earliest 50 = .ok (.invokevirtual 353, 3) := dk_182 1 97 (dk_at dksX4_earliest_2 2 rfl rfl)
theorem dX4_earliest_53 : decode cX4_earliest 53 = .ok (.aload_n 0, 1) := dk_42 (dk_at dksX4_earliest_2 5 rfl rfl)
theorem dX4_earliest_54 : decode cX4_earliest 54 = .ok (.iload_n 1, 1) := dk_27 (dk_at dksX4_earliest_2 6 rfl rfl)
theorem dX4_earliest_55 : decode cX4_earliest 55 = .ok (.invokevirtual 356, 3) := dk_182 1 100 (dk_at dksX4_earliest_2 7 rfl rfl)
theorem dX4_earliest_58 : decode cX4_earliest 58 = .ok (.ifCond .eq 5, 3) := dk_153 0 5 (dk_at dksX4_earliest_2 10 rfl rfl)
theorem dX4_earliest_61 : decode cX4_earliest 61 = .ok (.iload_n 3, 1) := dk_29 (dk_at dksX4_earliest_2 13 rfl rfl)
theorem dX4_earliest_62 : decode cX4_earliest 62 = .ok (.istore_n 2, 1) := dk_61 (dk_at dksX4_earliest_2 14 rfl rfl)
theorem dX4_earliest_63 : decode cX4_earliest 63 = .ok (.iinc 3 1, 3) := dk_132 3 1 (dk_at dksX4_earliest_2 15 rfl rfl)
theorem dX4_earliest_66 : decode cX4_earliest 66 = .ok (.goto (-39), 3) := dk_167 255 217 (dk_at dksX4_earliest_2 18 rfl rfl)
theorem dX4_earliest_69 : decode cX4_earliest 69 = .ok (.aload_n 0, 1) := dk_42 (dk_at dksX4_earliest_2 21 rfl rfl)
theorem dX4_earliest_70 : decode cX4_earliest 70 = .ok (.iconst 0, 1) := dk_3 (dk_at dksX4_earliest_2 22 rfl rfl)
theorem dX4_earliest_71 : decode cX4_earliest 71 = .ok (.putfield 66, 3) := dk_181 0 66 (dk_at dksX4_earliest_3 0 rfl rfl)
theorem dX4_earliest_74 : decode cX4_earliest 74 = .ok (.iload_n 2, 1) := dk_28 (dk_at dksX4_earliest_3 3 rfl rfl)
theorem dX4_earliest_75 : decode cX4_earliest 75 = .ok (.ireturn, 1) := dk_172 (dk_at dksX4_earliest_3 4 rfl rfl)
abbrev cX4_beginTrial : ByteArray := prog_17_method_106_code
def yX4_beginTrial : MethodName := ⟨RX4, "beginTrial", "()V"⟩
def dkwX4_beginTrial_0 : List UInt8 := [42, 3, 4, 182, 0, 169, 42, 17, 0, 186, 181, 0, 66, 177]
abbrev dktX4_beginTrial_0 : List UInt8 := dkwX4_beginTrial_0 ++ []
theorem dksX4_beginTrial_0 : cX4_beginTrial.data.toList.drop 0 = dktX4_beginTrial_0 := by decide +kernel
theorem dX4_beginTrial_0 : decode cX4_beginTrial 0 = .ok (.aload_n 0, 1) := dk_42 (dk_at dksX4_beginTrial_0 0 rfl rfl)
theorem dX4_beginTrial_1 : decode cX4_beginTrial 1 = .ok (.iconst 0, 1) := dk_3 (dk_at dksX4_beginTrial_0 1 rfl rfl)
theorem dX4_beginTrial_2 : decode cX4_beginTrial 2 = .ok (.iconst 1, 1) := dk_4 (dk_at dksX4_beginTrial_0 2 rfl rfl)
theorem dX4_beginTrial_3 : decode cX4_beginTrial 3 = .ok (.invokevirtual 169, 3) := dk_182 0 169 (dk_at dksX4_beginTrial_0 3 rfl rfl)
theorem dX4_beginTrial_6 : decode cX4_beginTrial 6 = .ok (.aload_n 0, 1) := dk_42 (dk_at dksX4_beginTrial_0 6 rfl rfl)
theorem dX4_beginTrial_7 : decode cX4_beginTrial 7 = .ok (.sipush 186, 3) := dk_17 0 186 (dk_at dksX4_beginTrial_0 7 rfl rfl)
theorem dX4_beginTrial_10 : decode cX4_beginTrial 10 = .ok (.putfield 66, 3) := dk_181 0 66 (dk_at dksX4_beginTrial_0 10 rfl rfl)
theorem dX4_beginTrial_13 : decode cX4_beginTrial 13 = .ok (.return_, 1) := dk_177 (dk_at dksX4_beginTrial_0 13 rfl rfl)
abbrev cX4_setOf : ByteArray := prog_17_method_10_code
def yX4_setOf : MethodName := ⟨RX4, "setOf", "(III)V"⟩
def dkwX4_setOf_0 : List UInt8 := [42, 16, 9, 16, 7, 27, 104, 96, 28, 96, 29, 182, 0, 73, 177]
abbrev dktX4_setOf_0 : List UInt8 := dkwX4_setOf_0 ++ []
theorem dksX4_setOf_0 : cX4_setOf.data.toList.drop 0 = dktX4_setOf_0 := by decide +kernel
theorem dX4_setOf_0 : decode cX4_setOf 0 = .ok (.aload_n 0, 1) := dk_42 (dk_at dksX4_setOf_0 0 rfl rfl)
theorem dX4_setOf_1 : decode cX4_setOf 1 = .ok (.bipush 9, 2) := dk_16 9 (dk_at dksX4_setOf_0 1 rfl rfl)
theorem dX4_setOf_3 : decode cX4_setOf 3 = .ok (.bipush 7, 2) := dk_16 7 (dk_at dksX4_setOf_0 3 rfl rfl)
theorem dX4_setOf_5 : decode cX4_setOf 5 = .ok (.iload_n 1, 1) := dk_27 (dk_at dksX4_setOf_0 5 rfl rfl)
theorem dX4_setOf_6 : decode cX4_setOf 6 = .ok (.imul, 1) := dk_104 (dk_at dksX4_setOf_0 6 rfl rfl)
theorem dX4_setOf_7 : decode cX4_setOf 7 = .ok (.iadd, 1) := dk_96 (dk_at dksX4_setOf_0 7 rfl rfl)
theorem dX4_setOf_8 : decode cX4_setOf 8 = .ok (.iload_n 2, 1) := dk_28 (dk_at dksX4_setOf_0 8 rfl rfl)
theorem dX4_setOf_9 : decode cX4_setOf 9 = .ok (.iadd, 1) := dk_96 (dk_at dksX4_setOf_0 9 rfl rfl)
theorem dX4_setOf_10 : decode cX4_setOf 10 = .ok (.iload_n 3, 1) := dk_29 (dk_at dksX4_setOf_0 10 rfl rfl)
theorem dX4_setOf_11 : decode cX4_setOf 11 = .ok (.invokevirtual 73, 3) := dk_182 0 73 (dk_at dksX4_setOf_0 11 rfl rfl)
theorem dX4_setOf_14 : decode cX4_setOf 14 = .ok (.return_, 1) := dk_177 (dk_at dksX4_setOf_0 14 rfl rfl)
abbrev cX4_set : ByteArray := prog_17_method_7_code
def yX4_set : MethodName := ⟨RX4, "set", "(II)V"⟩
def dkwX4_set_0 : List UInt8 := [42, 180, 0, 7, 42, 180, 0, 66, 27, 96, 28, 79, 177]
abbrev dktX4_set_0 : List UInt8 := dkwX4_set_0 ++ []
theorem dksX4_set_0 : cX4_set.data.toList.drop 0 = dktX4_set_0 := by decide +kernel
theorem dX4_set_0 : decode cX4_set 0 = .ok (.aload_n 0, 1) := dk_42 (dk_at dksX4_set_0 0 rfl rfl)
theorem dX4_set_1 : decode cX4_set 1 = .ok (.getfield 7, 3) := dk_180 0 7 (dk_at dksX4_set_0 1 rfl rfl)
theorem dX4_set_4 : decode cX4_set 4 = .ok (.aload_n 0, 1) := dk_42 (dk_at dksX4_set_0 4 rfl rfl)
theorem dX4_set_5 : decode cX4_set 5 = .ok (.getfield 66, 3) := dk_180 0 66 (dk_at dksX4_set_0 5 rfl rfl)
theorem dX4_set_8 : decode cX4_set 8 = .ok (.iload_n 1, 1) := dk_27 (dk_at dksX4_set_0 8 rfl rfl)
theorem dX4_set_9 : decode cX4_set 9 = .ok (.iadd, 1) := dk_96 (dk_at dksX4_set_0 9 rfl rfl)
theorem dX4_set_10 : decode cX4_set 10 = .ok (.iload_n 2, 1) := dk_28 (dk_at dksX4_set_0 10 rfl rfl)
theorem dX4_set_11 : decode cX4_set 11 = .ok (.iastore, 1) := dk_79 (dk_at dksX4_set_0 11 rfl rfl)
theorem dX4_set_12 : decode cX4_set 12 = .ok (.return_, 1) := dk_177 (dk_at dksX4_set_0 12 rfl rfl)
abbrev cX4_isGood : ByteArray := prog_17_method_107_code
def yX4_isGood : MethodName := ⟨RX4, "isGood", "(I)Z"⟩
def dkwX4_isGood_1 : List UInt8 := [182, 1, 27, 42, 180, 0, 40, 27, 46, 153, 0, 5, 3, 172, 132, 2, 1, 167, 255, 217, 4, 172]
abbrev dktX4_isGood_1 : List UInt8 := dkwX4_isGood_1 ++ []
def dkwX4_isGood_0 : List UInt8 := [3, 61, 28, 42, 180, 0, 81, 162, 0, 37, 42, 27, 28, 182, 0, 232, 154, 0, 6, 167, 0, 19, 42, 28]
abbrev dktX4_isGood_0 : List UInt8 := dkwX4_isGood_0 ++ dktX4_isGood_1
theorem dksX4_isGood_0 : cX4_isGood.data.toList.drop 0 = dktX4_isGood_0 := by decide +kernel
theorem dksX4_isGood_1 : cX4_isGood.data.toList.drop 24 = dktX4_isGood_1 := dk_seg dksX4_isGood_0 24 rfl rfl
theorem dX4_isGood_0 : decode cX4_isGood 0 = .ok (.iconst 0, 1) := dk_3 (dk_at dksX4_isGood_0 0 rfl rfl)
theorem dX4_isGood_1 : decode cX4_isGood 1 = .ok (.istore_n 2, 1) := dk_61 (dk_at dksX4_isGood_0 1 rfl rfl)
theorem dX4_isGood_2 : decode cX4_isGood 2 = .ok (.iload_n 2, 1) := dk_28 (dk_at dksX4_isGood_0 2 rfl rfl)
theorem dX4_isGood_3 : decode cX4_isGood 3 = .ok (.aload_n 0, 1) := dk_42 (dk_at dksX4_isGood_0 3 rfl rfl)
theorem dX4_isGood_4 : decode cX4_isGood 4 = .ok (.getfield 81, 3) := dk_180 0 81 (dk_at dksX4_isGood_0 4 rfl rfl)
theorem dX4_isGood_7 : decode cX4_isGood 7 = .ok (.if_icmp .ge 37, 3) := dk_162 0 37 (dk_at dksX4_isGood_0 7 rfl rfl)
theorem dX4_isGood_10 : decode cX4_isGood 10 = .ok (.aload_n 0, 1) := dk_42 (dk_at dksX4_isGood_0 10 rfl rfl)
theorem dX4_isGood_11 : decode cX4_isGood 11 = .ok (.iload_n 1, 1) := dk_27 (dk_at dksX4_isGood_0 11 rfl rfl)
theorem dX4_isGood_12 : decode cX4_isGood 12 = .ok (.iload_n 2, 1) := dk_28 (dk_at dksX4_isGood_0 12 rfl rfl)
theorem dX4_isGood_13 : decode cX4_isGood 13 = .ok (.invokevirtual 232, 3) := dk_182 0 232 (dk_at dksX4_isGood_0 13 rfl rfl)
theorem dX4_isGood_16 : decode cX4_isGood 16 = .ok (.ifCond .ne 6, 3) := dk_154 0 6 (dk_at dksX4_isGood_0 16 rfl rfl)
theorem dX4_isGood_19 : decode cX4_isGood 19 = .ok (.goto 19, 3) := dk_167 0 19 (dk_at dksX4_isGood_0 19 rfl rfl)
theorem dX4_isGood_22 : decode cX4_isGood 22 = .ok (.aload_n 0, 1) := dk_42 (dk_at dksX4_isGood_0 22 rfl rfl)
theorem dX4_isGood_23 : decode cX4_isGood 23 = .ok (.iload_n 2, 1) := dk_28 (dk_at dksX4_isGood_0 23 rfl rfl)
theorem dX4_isGood_24 : decode cX4_isGood 24 = .ok (.invokevirtual 283, 3) := dk_182 1 27 (dk_at dksX4_isGood_1 0 rfl rfl)
theorem dX4_isGood_27 : decode cX4_isGood 27 = .ok (.aload_n 0, 1) := dk_42 (dk_at dksX4_isGood_1 3 rfl rfl)
theorem dX4_isGood_28 : decode cX4_isGood 28 = .ok (.getfield 40, 3) := dk_180 0 40 (dk_at dksX4_isGood_1 4 rfl rfl)
theorem dX4_isGood_31 : decode cX4_isGood 31 = .ok (.iload_n 1, 1) := dk_27 (dk_at dksX4_isGood_1 7 rfl rfl)
theorem dX4_isGood_32 : decode cX4_isGood 32 = .ok (.iaload, 1) := dk_46 (dk_at dksX4_isGood_1 8 rfl rfl)
theorem dX4_isGood_33 : decode cX4_isGood 33 = .ok (.ifCond .eq 5, 3) := dk_153 0 5 (dk_at dksX4_isGood_1 9 rfl rfl)
theorem dX4_isGood_36 : decode cX4_isGood 36 = .ok (.iconst 0, 1) := dk_3 (dk_at dksX4_isGood_1 12 rfl rfl)
theorem dX4_isGood_37 : decode cX4_isGood 37 = .ok (.ireturn, 1) := dk_172 (dk_at dksX4_isGood_1 13 rfl rfl)
theorem dX4_isGood_38 : decode cX4_isGood 38 = .ok (.iinc 2 1, 3) := dk_132 2 1 (dk_at dksX4_isGood_1 14 rfl rfl)
theorem dX4_isGood_41 : decode cX4_isGood 41 = .ok (.goto (-39), 3) := dk_167 255 217 (dk_at dksX4_isGood_1 17 rfl rfl)
theorem dX4_isGood_44 : decode cX4_isGood 44 = .ok (.iconst 1, 1) := dk_4 (dk_at dksX4_isGood_1 20 rfl rfl)
theorem dX4_isGood_45 : decode cX4_isGood 45 = .ok (.ireturn, 1) := dk_172 (dk_at dksX4_isGood_1 21 rfl rfl)
abbrev cX4_hitsIf : ByteArray := prog_17_method_109_code
def yX4_hitsIf : MethodName := ⟨RX4, "hitsIf", "(II)I"⟩
def dkwX4_hitsIf_3 : List UInt8 := [21, 4, 182, 1, 72, 153, 0, 6, 132, 3, 1, 132, 4, 1, 167, 255, 233, 42, 3, 181, 0, 66, 29, 172]
abbrev dktX4_hitsIf_3 : List UInt8 := dkwX4_hitsIf_3 ++ []
def dkwX4_hitsIf_2 : List UInt8 := [27, 3, 28, 182, 1, 97, 42, 182, 1, 54, 3, 62, 3, 54, 4, 21, 4, 17, 3, 232, 162, 0, 21, 42]
abbrev dktX4_hitsIf_2 : List UInt8 := dkwX4_hitsIf_2 ++ dktX4_hitsIf_3
def dkwX4_hitsIf_1 : List UInt8 := [42, 27, 4, 182, 0, 77, 100, 184, 0, 84, 154, 0, 9, 42, 5, 182, 0, 98, 172, 42, 182, 1, 94, 42]
abbrev dktX4_hitsIf_1 : List UInt8 := dkwX4_hitsIf_1 ++ dktX4_hitsIf_2
def dkwX4_hitsIf_0 : List UInt8 := [42, 3, 181, 0, 63, 42, 27, 182, 0, 229, 154, 0, 9, 42, 4, 182, 0, 98, 172, 28, 3, 17, 3, 231]
abbrev dktX4_hitsIf_0 : List UInt8 := dkwX4_hitsIf_0 ++ dktX4_hitsIf_1
theorem dksX4_hitsIf_0 : cX4_hitsIf.data.toList.drop 0 = dktX4_hitsIf_0 := by decide +kernel
theorem dksX4_hitsIf_1 : cX4_hitsIf.data.toList.drop 24 = dktX4_hitsIf_1 := dk_seg dksX4_hitsIf_0 24 rfl rfl
theorem dksX4_hitsIf_2 : cX4_hitsIf.data.toList.drop 48 = dktX4_hitsIf_2 := dk_seg dksX4_hitsIf_1 24 rfl rfl
theorem dksX4_hitsIf_3 : cX4_hitsIf.data.toList.drop 72 = dktX4_hitsIf_3 := dk_seg dksX4_hitsIf_2 24 rfl rfl
theorem dX4_hitsIf_0 : decode cX4_hitsIf 0 = .ok (.aload_n 0, 1) := dk_42 (dk_at dksX4_hitsIf_0 0 rfl rfl)
theorem dX4_hitsIf_1 : decode cX4_hitsIf 1 = .ok (.iconst 0, 1) := dk_3 (dk_at dksX4_hitsIf_0 1 rfl rfl)
theorem dX4_hitsIf_2 : decode cX4_hitsIf 2 = .ok (.putfield 63, 3) := dk_181 0 63 (dk_at dksX4_hitsIf_0 2 rfl rfl)
theorem dX4_hitsIf_5 : decode cX4_hitsIf 5 = .ok (.aload_n 0, 1) := dk_42 (dk_at dksX4_hitsIf_0 5 rfl rfl)
theorem dX4_hitsIf_6 : decode cX4_hitsIf 6 = .ok (.iload_n 1, 1) := dk_27 (dk_at dksX4_hitsIf_0 6 rfl rfl)
theorem dX4_hitsIf_7 : decode cX4_hitsIf 7 = .ok (.invokevirtual 229, 3) := dk_182 0 229 (dk_at dksX4_hitsIf_0 7 rfl rfl)
theorem dX4_hitsIf_10 : decode cX4_hitsIf 10 = .ok (.ifCond .ne 9, 3) := dk_154 0 9 (dk_at dksX4_hitsIf_0 10 rfl rfl)
theorem dX4_hitsIf_13 : decode cX4_hitsIf 13 = .ok (.aload_n 0, 1) := dk_42 (dk_at dksX4_hitsIf_0 13 rfl rfl)
theorem dX4_hitsIf_14 : decode cX4_hitsIf 14 = .ok (.iconst 1, 1) := dk_4 (dk_at dksX4_hitsIf_0 14 rfl rfl)
theorem dX4_hitsIf_15 : decode cX4_hitsIf 15 = .ok (.invokevirtual 98, 3) := dk_182 0 98 (dk_at dksX4_hitsIf_0 15 rfl rfl)
theorem dX4_hitsIf_18 : decode cX4_hitsIf 18 = .ok (.ireturn, 1) := dk_172 (dk_at dksX4_hitsIf_0 18 rfl rfl)
theorem dX4_hitsIf_19 : decode cX4_hitsIf 19 = .ok (.iload_n 2, 1) := dk_28 (dk_at dksX4_hitsIf_0 19 rfl rfl)
theorem dX4_hitsIf_20 : decode cX4_hitsIf 20 = .ok (.iconst 0, 1) := dk_3 (dk_at dksX4_hitsIf_0 20 rfl rfl)
theorem dX4_hitsIf_21 : decode cX4_hitsIf 21 = .ok (.sipush 999, 3) := dk_17 3 231 (dk_at dksX4_hitsIf_0 21 rfl rfl)
theorem dX4_hitsIf_24 : decode cX4_hitsIf 24 = .ok (.aload_n 0, 1) := dk_42 (dk_at dksX4_hitsIf_1 0 rfl rfl)
theorem dX4_hitsIf_25 : decode cX4_hitsIf 25 = .ok (.iload_n 1, 1) := dk_27 (dk_at dksX4_hitsIf_1 1 rfl rfl)
theorem dX4_hitsIf_26 : decode cX4_hitsIf 26 = .ok (.iconst 1, 1) := dk_4 (dk_at dksX4_hitsIf_1 2 rfl rfl)
theorem dX4_hitsIf_27 : decode cX4_hitsIf 27 = .ok (.invokevirtual 77, 3) := dk_182 0 77 (dk_at dksX4_hitsIf_1 3 rfl rfl)
theorem dX4_hitsIf_30 : decode cX4_hitsIf 30 = .ok (.isub, 1) := dk_100 (dk_at dksX4_hitsIf_1 6 rfl rfl)
theorem dX4_hitsIf_31 : decode cX4_hitsIf 31 = .ok (.invokestatic 84, 3) := dk_184 0 84 (dk_at dksX4_hitsIf_1 7 rfl rfl)
theorem dX4_hitsIf_34 : decode cX4_hitsIf 34 = .ok (.ifCond .ne 9, 3) := dk_154 0 9 (dk_at dksX4_hitsIf_1 10 rfl rfl)
theorem dX4_hitsIf_37 : decode cX4_hitsIf 37 = .ok (.aload_n 0, 1) := dk_42 (dk_at dksX4_hitsIf_1 13 rfl rfl)
theorem dX4_hitsIf_38 : decode cX4_hitsIf 38 = .ok (.iconst 2, 1) := dk_5 (dk_at dksX4_hitsIf_1 14 rfl rfl)
theorem dX4_hitsIf_39 : decode cX4_hitsIf 39 = .ok (.invokevirtual 98, 3) := dk_182 0 98 (dk_at dksX4_hitsIf_1 15 rfl rfl)
theorem dX4_hitsIf_42 : decode cX4_hitsIf 42 = .ok (.ireturn, 1) := dk_172 (dk_at dksX4_hitsIf_1 18 rfl rfl)
theorem dX4_hitsIf_43 : decode cX4_hitsIf 43 = .ok (.aload_n 0, 1) := dk_42 (dk_at dksX4_hitsIf_1 19 rfl rfl)
theorem dX4_hitsIf_44 : decode cX4_hitsIf 44 = .ok (.invokevirtual 350, 3) := dk_182 1 94 (dk_at dksX4_hitsIf_1 20 rfl rfl)
theorem dX4_hitsIf_47 : decode cX4_hitsIf 47 = .ok (.aload_n 0, 1) := dk_42 (dk_at dksX4_hitsIf_1 23 rfl rfl)
theorem dX4_hitsIf_48 : decode cX4_hitsIf 48 = .ok (.iload_n 1, 1) := dk_27 (dk_at dksX4_hitsIf_2 0 rfl rfl)
theorem dX4_hitsIf_49 : decode cX4_hitsIf 49 = .ok (.iconst 0, 1) := dk_3 (dk_at dksX4_hitsIf_2 1 rfl rfl)
theorem dX4_hitsIf_50 : decode cX4_hitsIf 50 = .ok (.iload_n 2, 1) := dk_28 (dk_at dksX4_hitsIf_2 2 rfl rfl)
theorem dX4_hitsIf_51 : decode cX4_hitsIf 51 = .ok (.invokevirtual 353, 3) := dk_182 1 97 (dk_at dksX4_hitsIf_2 3 rfl rfl)
theorem dX4_hitsIf_54 : decode cX4_hitsIf 54 = .ok (.aload_n 0, 1) := dk_42 (dk_at dksX4_hitsIf_2 6 rfl rfl)
theorem dX4_hitsIf_55 : decode cX4_hitsIf 55 = .ok (.invokevirtual 310, 3) := dk_182 1 54 (dk_at dksX4_hitsIf_2 7 rfl rfl)
theorem dX4_hitsIf_58 : decode cX4_hitsIf 58 = .ok (.iconst 0, 1) := dk_3 (dk_at dksX4_hitsIf_2 10 rfl rfl)
theorem dX4_hitsIf_59 : decode cX4_hitsIf 59 = .ok (.istore_n 3, 1) := dk_62 (dk_at dksX4_hitsIf_2 11 rfl rfl)
theorem dX4_hitsIf_60 : decode cX4_hitsIf 60 = .ok (.iconst 0, 1) := dk_3 (dk_at dksX4_hitsIf_2 12 rfl rfl)
theorem dX4_hitsIf_61 : decode cX4_hitsIf 61 = .ok (.istore 4, 2) := dk_54 4 (dk_at dksX4_hitsIf_2 13 rfl rfl)
theorem dX4_hitsIf_63 : decode cX4_hitsIf 63 = .ok (.iload 4, 2) := dk_21 4 (dk_at dksX4_hitsIf_2 15 rfl rfl)
theorem dX4_hitsIf_65 : decode cX4_hitsIf 65 = .ok (.sipush 1000, 3) := dk_17 3 232 (dk_at dksX4_hitsIf_2 17 rfl rfl)
theorem dX4_hitsIf_68 : decode cX4_hitsIf 68 = .ok (.if_icmp .ge 21, 3) := dk_162 0 21 (dk_at dksX4_hitsIf_2 20 rfl rfl)
theorem dX4_hitsIf_71 : decode cX4_hitsIf 71 = .ok (.aload_n 0, 1) := dk_42 (dk_at dksX4_hitsIf_2 23 rfl rfl)
theorem dX4_hitsIf_72 : decode cX4_hitsIf 72 = .ok (.iload 4, 2) := dk_21 4 (dk_at dksX4_hitsIf_3 0 rfl rfl)
theorem dX4_hitsIf_74 : decode cX4_hitsIf 74 = .ok (.invokevirtual 328, 3) := dk_182 1 72 (dk_at dksX4_hitsIf_3 2 rfl rfl)
theorem dX4_hitsIf_77 : decode cX4_hitsIf 77 = .ok (.ifCond .eq 6, 3) := dk_153 0 6 (dk_at dksX4_hitsIf_3 5 rfl rfl)
theorem dX4_hitsIf_80 : decode cX4_hitsIf 80 = .ok (.iinc 3 1, 3) := dk_132 3 1 (dk_at dksX4_hitsIf_3 8 rfl rfl)
theorem dX4_hitsIf_83 : decode cX4_hitsIf 83 = .ok (.iinc 4 1, 3) := dk_132 4 1 (dk_at dksX4_hitsIf_3 11 rfl rfl)
theorem dX4_hitsIf_86 : decode cX4_hitsIf 86 = .ok (.goto (-23), 3) := dk_167 255 233 (dk_at dksX4_hitsIf_3 14 rfl rfl)
theorem dX4_hitsIf_89 : decode cX4_hitsIf 89 = .ok (.aload_n 0, 1) := dk_42 (dk_at dksX4_hitsIf_3 17 rfl rfl)
theorem dX4_hitsIf_90 : decode cX4_hitsIf 90 = .ok (.iconst 0, 1) := dk_3 (dk_at dksX4_hitsIf_3 18 rfl rfl)
theorem dX4_hitsIf_91 : decode cX4_hitsIf 91 = .ok (.putfield 66, 3) := dk_181 0 66 (dk_at dksX4_hitsIf_3 19 rfl rfl)
theorem dX4_hitsIf_94 : decode cX4_hitsIf 94 = .ok (.iload_n 3, 1) := dk_29 (dk_at dksX4_hitsIf_3 22 rfl rfl)
theorem dX4_hitsIf_95 : decode cX4_hitsIf 95 = .ok (.ireturn, 1) := dk_172 (dk_at dksX4_hitsIf_3 23 rfl rfl)
abbrev cX4_mostSaved : ByteArray := prog_17_method_112_code
def yX4_mostSaved : MethodName := ⟨RX4, "mostSaved", "(I)I"⟩
def dkwX4_mostSaved_3 : List UInt8 := [163, 0, 6, 167, 0, 9, 21, 4, 61, 21, 6, 62, 132, 4, 1, 167, 255, 196, 28, 172]
abbrev dktX4_mostSaved_3 : List UInt8 := dkwX4_mostSaved_3 ++ []
def dkwX4_mostSaved_2 : List UInt8 := [27, 182, 1, 107, 21, 5, 42, 21, 4, 182, 1, 63, 100, 54, 6, 42, 3, 181, 0, 66, 21, 6, 29]
abbrev dktX4_mostSaved_2 : List UInt8 := dkwX4_mostSaved_2 ++ dktX4_mostSaved_3
def dkwX4_mostSaved_1 : List UInt8 := [54, 4, 21, 4, 42, 180, 0, 81, 162, 0, 57, 42, 21, 4, 182, 1, 63, 54, 5, 42, 182, 1, 94, 42]
abbrev dktX4_mostSaved_1 : List UInt8 := dkwX4_mostSaved_1 ++ dktX4_mostSaved_2
def dkwX4_mostSaved_0 : List UInt8 := [42, 3, 181, 0, 63, 42, 27, 182, 0, 229, 154, 0, 9, 42, 4, 182, 0, 98, 172, 2, 61, 3, 62, 3]
abbrev dktX4_mostSaved_0 : List UInt8 := dkwX4_mostSaved_0 ++ dktX4_mostSaved_1
theorem dksX4_mostSaved_0 : cX4_mostSaved.data.toList.drop 0 = dktX4_mostSaved_0 := by decide +kernel
theorem dksX4_mostSaved_1 : cX4_mostSaved.data.toList.drop 24 = dktX4_mostSaved_1 := dk_seg dksX4_mostSaved_0 24 rfl rfl
theorem dksX4_mostSaved_2 : cX4_mostSaved.data.toList.drop 48 = dktX4_mostSaved_2 := dk_seg dksX4_mostSaved_1 24 rfl rfl
theorem dksX4_mostSaved_3 : cX4_mostSaved.data.toList.drop 71 = dktX4_mostSaved_3 := dk_seg dksX4_mostSaved_2 23 rfl rfl
theorem dX4_mostSaved_0 : decode cX4_mostSaved 0 = .ok (.aload_n 0, 1) := dk_42 (dk_at dksX4_mostSaved_0 0 rfl rfl)
theorem dX4_mostSaved_1 : decode cX4_mostSaved 1 = .ok (.iconst 0, 1) := dk_3 (dk_at dksX4_mostSaved_0 1 rfl rfl)
theorem dX4_mostSaved_2 : decode cX4_mostSaved 2 = .ok (.putfield 63, 3) := dk_181 0 63 (dk_at dksX4_mostSaved_0 2 rfl rfl)
theorem dX4_mostSaved_5 : decode cX4_mostSaved 5 = .ok (.aload_n 0, 1) := dk_42 (dk_at dksX4_mostSaved_0 5 rfl rfl)
theorem dX4_mostSaved_6 : decode cX4_mostSaved 6 = .ok (.iload_n 1, 1) := dk_27 (dk_at dksX4_mostSaved_0 6 rfl rfl)
theorem dX4_mostSaved_7 : decode cX4_mostSaved 7 = .ok (.invokevirtual 229, 3) := dk_182 0 229 (dk_at dksX4_mostSaved_0 7 rfl rfl)
theorem dX4_mostSaved_10 : decode cX4_mostSaved 10 = .ok (.ifCond .ne 9, 3) := dk_154 0 9 (dk_at dksX4_mostSaved_0 10 rfl rfl)
theorem dX4_mostSaved_13 : decode cX4_mostSaved 13 = .ok (.aload_n 0, 1) := dk_42 (dk_at dksX4_mostSaved_0 13 rfl rfl)
theorem dX4_mostSaved_14 : decode cX4_mostSaved 14 = .ok (.iconst 1, 1) := dk_4 (dk_at dksX4_mostSaved_0 14 rfl rfl)
theorem dX4_mostSaved_15 : decode cX4_mostSaved 15 = .ok (.invokevirtual 98, 3) := dk_182 0 98 (dk_at dksX4_mostSaved_0 15 rfl rfl)
theorem dX4_mostSaved_18 : decode cX4_mostSaved 18 = .ok (.ireturn, 1) := dk_172 (dk_at dksX4_mostSaved_0 18 rfl rfl)
theorem dX4_mostSaved_19 : decode cX4_mostSaved 19 = .ok (.iconst (-1), 1) := dk_2 (dk_at dksX4_mostSaved_0 19 rfl rfl)
theorem dX4_mostSaved_20 : decode cX4_mostSaved 20 = .ok (.istore_n 2, 1) := dk_61 (dk_at dksX4_mostSaved_0 20 rfl rfl)
theorem dX4_mostSaved_21 : decode cX4_mostSaved 21 = .ok (.iconst 0, 1) := dk_3 (dk_at dksX4_mostSaved_0 21 rfl rfl)
theorem dX4_mostSaved_22 : decode cX4_mostSaved 22 = .ok (.istore_n 3, 1) := dk_62 (dk_at dksX4_mostSaved_0 22 rfl rfl)
theorem dX4_mostSaved_23 : decode cX4_mostSaved 23 = .ok (.iconst 0, 1) := dk_3 (dk_at dksX4_mostSaved_0 23 rfl rfl)
theorem dX4_mostSaved_24 : decode cX4_mostSaved 24 = .ok (.istore 4, 2) := dk_54 4 (dk_at dksX4_mostSaved_1 0 rfl rfl)
theorem dX4_mostSaved_26 : decode cX4_mostSaved 26 = .ok (.iload 4, 2) := dk_21 4 (dk_at dksX4_mostSaved_1 2 rfl rfl)
theorem dX4_mostSaved_28 : decode cX4_mostSaved 28 = .ok (.aload_n 0, 1) := dk_42 (dk_at dksX4_mostSaved_1 4 rfl rfl)
theorem dX4_mostSaved_29 : decode cX4_mostSaved 29 = .ok (.getfield 81, 3) := dk_180 0 81 (dk_at dksX4_mostSaved_1 5 rfl rfl)
theorem dX4_mostSaved_32 : decode cX4_mostSaved 32 = .ok (.if_icmp .ge 57, 3) := dk_162 0 57 (dk_at dksX4_mostSaved_1 8 rfl rfl)
theorem dX4_mostSaved_35 : decode cX4_mostSaved 35 = .ok (.aload_n 0, 1) := dk_42 (dk_at dksX4_mostSaved_1 11 rfl rfl)
theorem dX4_mostSaved_36 : decode cX4_mostSaved 36 = .ok (.iload 4, 2) := dk_21 4 (dk_at dksX4_mostSaved_1 12 rfl rfl)
theorem dX4_mostSaved_38 : decode cX4_mostSaved 38 = .ok (.invokevirtual 319, 3) := dk_182 1 63 (dk_at dksX4_mostSaved_1 14 rfl rfl)
theorem dX4_mostSaved_41 : decode cX4_mostSaved 41 = .ok (.istore 5, 2) := dk_54 5 (dk_at dksX4_mostSaved_1 17 rfl rfl)
theorem dX4_mostSaved_43 : decode cX4_mostSaved 43 = .ok (.aload_n 0, 1) := dk_42 (dk_at dksX4_mostSaved_1 19 rfl rfl)
theorem dX4_mostSaved_44 : decode cX4_mostSaved 44 = .ok (.invokevirtual 350, 3) := dk_182 1 94 (dk_at dksX4_mostSaved_1 20 rfl rfl)
theorem dX4_mostSaved_47 : decode cX4_mostSaved 47 = .ok (.aload_n 0, 1) := dk_42 (dk_at dksX4_mostSaved_1 23 rfl rfl)
theorem dX4_mostSaved_48 : decode cX4_mostSaved 48 = .ok (.iload_n 1, 1) := dk_27 (dk_at dksX4_mostSaved_2 0 rfl rfl)
theorem dX4_mostSaved_49 : decode cX4_mostSaved 49 = .ok (.invokevirtual 363, 3) := dk_182 1 107 (dk_at dksX4_mostSaved_2 1 rfl rfl)
theorem dX4_mostSaved_52 : decode cX4_mostSaved 52 = .ok (.iload 5, 2) := dk_21 5 (dk_at dksX4_mostSaved_2 4 rfl rfl)
theorem dX4_mostSaved_54 : decode cX4_mostSaved 54 = .ok (.aload_n 0, 1) := dk_42 (dk_at dksX4_mostSaved_2 6 rfl rfl)
theorem dX4_mostSaved_55 : decode cX4_mostSaved 55 = .ok (.iload 4, 2) := dk_21 4 (dk_at dksX4_mostSaved_2 7 rfl rfl)
theorem dX4_mostSaved_57 : decode cX4_mostSaved 57 = .ok (.invokevirtual 319, 3) := dk_182 1 63 (dk_at dksX4_mostSaved_2 9 rfl rfl)
theorem dX4_mostSaved_60 : decode cX4_mostSaved 60 = .ok (.isub, 1) := dk_100 (dk_at dksX4_mostSaved_2 12 rfl rfl)
theorem dX4_mostSaved_61 : decode cX4_mostSaved 61 = .ok (.istore 6, 2) := dk_54 6 (dk_at dksX4_mostSaved_2 13 rfl rfl)
theorem dX4_mostSaved_63 : decode cX4_mostSaved 63 = .ok (.aload_n 0, 1) := dk_42 (dk_at dksX4_mostSaved_2 15 rfl rfl)
theorem dX4_mostSaved_64 : decode cX4_mostSaved 64 = .ok (.iconst 0, 1) := dk_3 (dk_at dksX4_mostSaved_2 16 rfl rfl)
theorem dX4_mostSaved_65 : decode cX4_mostSaved 65 = .ok (.putfield 66, 3) := dk_181 0 66 (dk_at dksX4_mostSaved_2 17 rfl rfl)
theorem dX4_mostSaved_68 : decode cX4_mostSaved 68 = .ok (.iload 6, 2) := dk_21 6 (dk_at dksX4_mostSaved_2 20 rfl rfl)
theorem dX4_mostSaved_70 : decode cX4_mostSaved 70 = .ok (.iload_n 3, 1) := dk_29 (dk_at dksX4_mostSaved_2 22 rfl rfl)
theorem dX4_mostSaved_71 : decode cX4_mostSaved 71 = .ok (.if_icmp .gt 6, 3) := dk_163 0 6 (dk_at dksX4_mostSaved_3 0 rfl rfl)
theorem dX4_mostSaved_74 : decode cX4_mostSaved 74 = .ok (.goto 9, 3) := dk_167 0 9 (dk_at dksX4_mostSaved_3 3 rfl rfl)
theorem dX4_mostSaved_77 : decode cX4_mostSaved 77 = .ok (.iload 4, 2) := dk_21 4 (dk_at dksX4_mostSaved_3 6 rfl rfl)
theorem dX4_mostSaved_79 : decode cX4_mostSaved 79 = .ok (.istore_n 2, 1) := dk_61 (dk_at dksX4_mostSaved_3 8 rfl rfl)
theorem dX4_mostSaved_80 : decode cX4_mostSaved 80 = .ok (.iload 6, 2) := dk_21 6 (dk_at dksX4_mostSaved_3 9 rfl rfl)
theorem dX4_mostSaved_82 : decode cX4_mostSaved 82 = .ok (.istore_n 3, 1) := dk_62 (dk_at dksX4_mostSaved_3 11 rfl rfl)
theorem dX4_mostSaved_83 : decode cX4_mostSaved 83 = .ok (.iinc 4 1, 3) := dk_132 4 1 (dk_at dksX4_mostSaved_3 12 rfl rfl)
theorem dX4_mostSaved_86 : decode cX4_mostSaved 86 = .ok (.goto (-60), 3) := dk_167 255 196 (dk_at dksX4_mostSaved_3 15 rfl rfl)
theorem dX4_mostSaved_89 : decode cX4_mostSaved 89 = .ok (.iload_n 2, 1) := dk_28 (dk_at dksX4_mostSaved_3 18 rfl rfl)
theorem dX4_mostSaved_90 : decode cX4_mostSaved 90 = .ok (.ireturn, 1) := dk_172 (dk_at dksX4_mostSaved_3 19 rfl rfl)
abbrev cX4_removesCue : ByteArray := prog_17_method_111_code
def yX4_removesCue : MethodName := ⟨RX4, "removesCue", "(I)V"⟩
def dkwX4_removesCue_1 : List UInt8 := [182, 0, 73, 177]
abbrev dktX4_removesCue_1 : List UInt8 := dkwX4_removesCue_1 ++ []
def dkwX4_removesCue_0 : List UInt8 := [42, 16, 9, 16, 7, 42, 182, 0, 88, 27, 182, 1, 103, 42, 16, 8, 42, 182, 0, 88, 4, 100]
abbrev dktX4_removesCue_0 : List UInt8 := dkwX4_removesCue_0 ++ dktX4_removesCue_1
theorem dksX4_removesCue_0 : cX4_removesCue.data.toList.drop 0 = dktX4_removesCue_0 := by decide +kernel
theorem dksX4_removesCue_1 : cX4_removesCue.data.toList.drop 22 = dktX4_removesCue_1 := dk_seg dksX4_removesCue_0 22 rfl rfl
theorem dX4_removesCue_0 : decode cX4_removesCue 0 = .ok (.aload_n 0, 1) := dk_42 (dk_at dksX4_removesCue_0 0 rfl rfl)
theorem dX4_removesCue_1 : decode cX4_removesCue 1 = .ok (.bipush 9, 2) := dk_16 9 (dk_at dksX4_removesCue_0 1 rfl rfl)
theorem dX4_removesCue_3 : decode cX4_removesCue 3 = .ok (.bipush 7, 2) := dk_16 7 (dk_at dksX4_removesCue_0 3 rfl rfl)
theorem dX4_removesCue_5 : decode cX4_removesCue 5 = .ok (.aload_n 0, 1) := dk_42 (dk_at dksX4_removesCue_0 5 rfl rfl)
theorem dX4_removesCue_6 : decode cX4_removesCue 6 = .ok (.invokevirtual 88, 3) := dk_182 0 88 (dk_at dksX4_removesCue_0 6 rfl rfl)
theorem dX4_removesCue_9 : decode cX4_removesCue 9 = .ok (.iload_n 1, 1) := dk_27 (dk_at dksX4_removesCue_0 9 rfl rfl)
theorem dX4_removesCue_10 : decode cX4_removesCue 10 = .ok (.invokevirtual 359, 3) := dk_182 1 103 (dk_at dksX4_removesCue_0 10 rfl rfl)
theorem dX4_removesCue_13 : decode cX4_removesCue 13 = .ok (.aload_n 0, 1) := dk_42 (dk_at dksX4_removesCue_0 13 rfl rfl)
theorem dX4_removesCue_14 : decode cX4_removesCue 14 = .ok (.bipush 8, 2) := dk_16 8 (dk_at dksX4_removesCue_0 14 rfl rfl)
theorem dX4_removesCue_16 : decode cX4_removesCue 16 = .ok (.aload_n 0, 1) := dk_42 (dk_at dksX4_removesCue_0 16 rfl rfl)
theorem dX4_removesCue_17 : decode cX4_removesCue 17 = .ok (.invokevirtual 88, 3) := dk_182 0 88 (dk_at dksX4_removesCue_0 17 rfl rfl)
theorem dX4_removesCue_20 : decode cX4_removesCue 20 = .ok (.iconst 1, 1) := dk_4 (dk_at dksX4_removesCue_0 20 rfl rfl)
theorem dX4_removesCue_21 : decode cX4_removesCue 21 = .ok (.isub, 1) := dk_100 (dk_at dksX4_removesCue_0 21 rfl rfl)
theorem dX4_removesCue_22 : decode cX4_removesCue 22 = .ok (.invokevirtual 73, 3) := dk_182 0 73 (dk_at dksX4_removesCue_1 0 rfl rfl)
theorem dX4_removesCue_25 : decode cX4_removesCue 25 = .ok (.return_, 1) := dk_177 (dk_at dksX4_removesCue_1 3 rfl rfl)
abbrev cX4_removes : ByteArray := prog_17_method_110_code
def yX4_removes : MethodName := ⟨RX4, "removes", "(IIII)V"⟩
def dkwX4_removes_1 : List UInt8 := [21, 5, 96, 28, 96, 182, 0, 69, 182, 0, 73, 132, 5, 1, 167, 255, 225, 177]
abbrev dktX4_removes_1 : List UInt8 := dkwX4_removes_1 ++ []
def dkwX4_removes_0 : List UInt8 := [28, 21, 4, 104, 54, 5, 21, 5, 28, 29, 4, 100, 104, 162, 0, 27, 42, 27, 21, 5, 96, 42, 27]
abbrev dktX4_removes_0 : List UInt8 := dkwX4_removes_0 ++ dktX4_removes_1
theorem dksX4_removes_0 : cX4_removes.data.toList.drop 0 = dktX4_removes_0 := by decide +kernel
theorem dksX4_removes_1 : cX4_removes.data.toList.drop 23 = dktX4_removes_1 := dk_seg dksX4_removes_0 23 rfl rfl
theorem dX4_removes_0 : decode cX4_removes 0 = .ok (.iload_n 2, 1) := dk_28 (dk_at dksX4_removes_0 0 rfl rfl)
theorem dX4_removes_1 : decode cX4_removes 1 = .ok (.iload 4, 2) := dk_21 4 (dk_at dksX4_removes_0 1 rfl rfl)
theorem dX4_removes_3 : decode cX4_removes 3 = .ok (.imul, 1) := dk_104 (dk_at dksX4_removes_0 3 rfl rfl)
theorem dX4_removes_4 : decode cX4_removes 4 = .ok (.istore 5, 2) := dk_54 5 (dk_at dksX4_removes_0 4 rfl rfl)
theorem dX4_removes_6 : decode cX4_removes 6 = .ok (.iload 5, 2) := dk_21 5 (dk_at dksX4_removes_0 6 rfl rfl)
theorem dX4_removes_8 : decode cX4_removes 8 = .ok (.iload_n 2, 1) := dk_28 (dk_at dksX4_removes_0 8 rfl rfl)
theorem dX4_removes_9 : decode cX4_removes 9 = .ok (.iload_n 3, 1) := dk_29 (dk_at dksX4_removes_0 9 rfl rfl)
theorem dX4_removes_10 : decode cX4_removes 10 = .ok (.iconst 1, 1) := dk_4 (dk_at dksX4_removes_0 10 rfl rfl)
theorem dX4_removes_11 : decode cX4_removes 11 = .ok (.isub, 1) := dk_100 (dk_at dksX4_removes_0 11 rfl rfl)
theorem dX4_removes_12 : decode cX4_removes 12 = .ok (.imul, 1) := dk_104 (dk_at dksX4_removes_0 12 rfl rfl)
theorem dX4_removes_13 : decode cX4_removes 13 = .ok (.if_icmp .ge 27, 3) := dk_162 0 27 (dk_at dksX4_removes_0 13 rfl rfl)
theorem dX4_removes_16 : decode cX4_removes 16 = .ok (.aload_n 0, 1) := dk_42 (dk_at dksX4_removes_0 16 rfl rfl)
theorem dX4_removes_17 : decode cX4_removes 17 = .ok (.iload_n 1, 1) := dk_27 (dk_at dksX4_removes_0 17 rfl rfl)
theorem dX4_removes_18 : decode cX4_removes 18 = .ok (.iload 5, 2) := dk_21 5 (dk_at dksX4_removes_0 18 rfl rfl)
theorem dX4_removes_20 : decode cX4_removes 20 = .ok (.iadd, 1) := dk_96 (dk_at dksX4_removes_0 20 rfl rfl)
theorem dX4_removes_21 : decode cX4_removes 21 = .ok (.aload_n 0, 1) := dk_42 (dk_at dksX4_removes_0 21 rfl rfl)
theorem dX4_removes_22 : decode cX4_removes 22 = .ok (.iload_n 1, 1) := dk_27 (dk_at dksX4_removes_0 22 rfl rfl)
theorem dX4_removes_23 : decode cX4_removes 23 = .ok (.iload 5, 2) := dk_21 5 (dk_at dksX4_removes_1 0 rfl rfl)
theorem dX4_removes_25 : decode cX4_removes 25 = .ok (.iadd, 1) := dk_96 (dk_at dksX4_removes_1 2 rfl rfl)
theorem dX4_removes_26 : decode cX4_removes 26 = .ok (.iload_n 2, 1) := dk_28 (dk_at dksX4_removes_1 3 rfl rfl)
theorem dX4_removes_27 : decode cX4_removes 27 = .ok (.iadd, 1) := dk_96 (dk_at dksX4_removes_1 4 rfl rfl)
theorem dX4_removes_28 : decode cX4_removes 28 = .ok (.invokevirtual 69, 3) := dk_182 0 69 (dk_at dksX4_removes_1 5 rfl rfl)
theorem dX4_removes_31 : decode cX4_removes 31 = .ok (.invokevirtual 73, 3) := dk_182 0 73 (dk_at dksX4_removes_1 8 rfl rfl)
theorem dX4_removes_34 : decode cX4_removes 34 = .ok (.iinc 5 1, 3) := dk_132 5 1 (dk_at dksX4_removes_1 11 rfl rfl)
theorem dX4_removes_37 : decode cX4_removes 37 = .ok (.goto (-31), 3) := dk_167 255 225 (dk_at dksX4_removes_1 14 rfl rfl)
theorem dX4_removes_40 : decode cX4_removes 40 = .ok (.return_, 1) := dk_177 (dk_at dksX4_removes_1 17 rfl rfl)
abbrev cX4_undo : ByteArray := prog_17_method_115_code
def yX4_undo : MethodName := ⟨RX4, "undo", "()I"⟩
def dkwX4_undo_1 : List UInt8 := [100, 181, 0, 172, 42, 42, 42, 180, 0, 172, 182, 1, 110, 3, 182, 0, 169, 42, 180, 0, 172, 172]
abbrev dktX4_undo_1 : List UInt8 := dkwX4_undo_1 ++ []
def dkwX4_undo_0 : List UInt8 := [42, 3, 181, 0, 63, 42, 180, 0, 172, 154, 0, 9, 42, 4, 182, 0, 98, 172, 42, 89, 180, 0, 172, 4]
abbrev dktX4_undo_0 : List UInt8 := dkwX4_undo_0 ++ dktX4_undo_1
theorem dksX4_undo_0 : cX4_undo.data.toList.drop 0 = dktX4_undo_0 := by decide +kernel
theorem dksX4_undo_1 : cX4_undo.data.toList.drop 24 = dktX4_undo_1 := dk_seg dksX4_undo_0 24 rfl rfl
theorem dX4_undo_0 : decode cX4_undo 0 = .ok (.aload_n 0, 1) := dk_42 (dk_at dksX4_undo_0 0 rfl rfl)
theorem dX4_undo_1 : decode cX4_undo 1 = .ok (.iconst 0, 1) := dk_3 (dk_at dksX4_undo_0 1 rfl rfl)
theorem dX4_undo_2 : decode cX4_undo 2 = .ok (.putfield 63, 3) := dk_181 0 63 (dk_at dksX4_undo_0 2 rfl rfl)
theorem dX4_undo_5 : decode cX4_undo 5 = .ok (.aload_n 0, 1) := dk_42 (dk_at dksX4_undo_0 5 rfl rfl)
theorem dX4_undo_6 : decode cX4_undo 6 = .ok (.getfield 172, 3) := dk_180 0 172 (dk_at dksX4_undo_0 6 rfl rfl)
theorem dX4_undo_9 : decode cX4_undo 9 = .ok (.ifCond .ne 9, 3) := dk_154 0 9 (dk_at dksX4_undo_0 9 rfl rfl)
theorem dX4_undo_12 : decode cX4_undo 12 = .ok (.aload_n 0, 1) := dk_42 (dk_at dksX4_undo_0 12 rfl rfl)
theorem dX4_undo_13 : decode cX4_undo 13 = .ok (.iconst 1, 1) := dk_4 (dk_at dksX4_undo_0 13 rfl rfl)
theorem dX4_undo_14 : decode cX4_undo 14 = .ok (.invokevirtual 98, 3) := dk_182 0 98 (dk_at dksX4_undo_0 14 rfl rfl)
theorem dX4_undo_17 : decode cX4_undo 17 = .ok (.ireturn, 1) := dk_172 (dk_at dksX4_undo_0 17 rfl rfl)
theorem dX4_undo_18 : decode cX4_undo 18 = .ok (.aload_n 0, 1) := dk_42 (dk_at dksX4_undo_0 18 rfl rfl)
theorem dX4_undo_19 : decode cX4_undo 19 = .ok (.dup, 1) := dk_89 (dk_at dksX4_undo_0 19 rfl rfl)
theorem dX4_undo_20 : decode cX4_undo 20 = .ok (.getfield 172, 3) := dk_180 0 172 (dk_at dksX4_undo_0 20 rfl rfl)
theorem dX4_undo_23 : decode cX4_undo 23 = .ok (.iconst 1, 1) := dk_4 (dk_at dksX4_undo_0 23 rfl rfl)
theorem dX4_undo_24 : decode cX4_undo 24 = .ok (.isub, 1) := dk_100 (dk_at dksX4_undo_1 0 rfl rfl)
theorem dX4_undo_25 : decode cX4_undo 25 = .ok (.putfield 172, 3) := dk_181 0 172 (dk_at dksX4_undo_1 1 rfl rfl)
theorem dX4_undo_28 : decode cX4_undo 28 = .ok (.aload_n 0, 1) := dk_42 (dk_at dksX4_undo_1 4 rfl rfl)
theorem dX4_undo_29 : decode cX4_undo 29 = .ok (.aload_n 0, 1) := dk_42 (dk_at dksX4_undo_1 5 rfl rfl)
theorem dX4_undo_30 : decode cX4_undo 30 = .ok (.aload_n 0, 1) := dk_42 (dk_at dksX4_undo_1 6 rfl rfl)
theorem dX4_undo_31 : decode cX4_undo 31 = .ok (.getfield 172, 3) := dk_180 0 172 (dk_at dksX4_undo_1 7 rfl rfl)
theorem dX4_undo_34 : decode cX4_undo 34 = .ok (.invokevirtual 366, 3) := dk_182 1 110 (dk_at dksX4_undo_1 10 rfl rfl)
theorem dX4_undo_37 : decode cX4_undo 37 = .ok (.iconst 0, 1) := dk_3 (dk_at dksX4_undo_1 13 rfl rfl)
theorem dX4_undo_38 : decode cX4_undo 38 = .ok (.invokevirtual 169, 3) := dk_182 0 169 (dk_at dksX4_undo_1 14 rfl rfl)
theorem dX4_undo_41 : decode cX4_undo 41 = .ok (.aload_n 0, 1) := dk_42 (dk_at dksX4_undo_1 17 rfl rfl)
theorem dX4_undo_42 : decode cX4_undo 42 = .ok (.getfield 172, 3) := dk_180 0 172 (dk_at dksX4_undo_1 18 rfl rfl)
theorem dX4_undo_45 : decode cX4_undo 45 = .ok (.ireturn, 1) := dk_172 (dk_at dksX4_undo_1 21 rfl rfl)
abbrev cX4_slot : ByteArray := prog_17_method_113_code
def yX4_slot : MethodName := ⟨RX4, "slot", "(I)I"⟩
def dkwX4_slot_0 : List UInt8 := [5, 42, 180, 0, 175, 27, 96, 16, 10, 112, 96, 172]
abbrev dktX4_slot_0 : List UInt8 := dkwX4_slot_0 ++ []
theorem dksX4_slot_0 : cX4_slot.data.toList.drop 0 = dktX4_slot_0 := by decide +kernel
theorem dX4_slot_0 : decode cX4_slot 0 = .ok (.iconst 2, 1) := dk_5 (dk_at dksX4_slot_0 0 rfl rfl)
theorem dX4_slot_1 : decode cX4_slot 1 = .ok (.aload_n 0, 1) := dk_42 (dk_at dksX4_slot_0 1 rfl rfl)
theorem dX4_slot_2 : decode cX4_slot 2 = .ok (.getfield 175, 3) := dk_180 0 175 (dk_at dksX4_slot_0 2 rfl rfl)
theorem dX4_slot_5 : decode cX4_slot 5 = .ok (.iload_n 1, 1) := dk_27 (dk_at dksX4_slot_0 5 rfl rfl)
theorem dX4_slot_6 : decode cX4_slot 6 = .ok (.iadd, 1) := dk_96 (dk_at dksX4_slot_0 6 rfl rfl)
theorem dX4_slot_7 : decode cX4_slot 7 = .ok (.bipush 10, 2) := dk_16 10 (dk_at dksX4_slot_0 7 rfl rfl)
theorem dX4_slot_9 : decode cX4_slot 9 = .ok (.irem, 1) := dk_112 (dk_at dksX4_slot_0 9 rfl rfl)
theorem dX4_slot_10 : decode cX4_slot 10 = .ok (.iadd, 1) := dk_96 (dk_at dksX4_slot_0 10 rfl rfl)
theorem dX4_slot_11 : decode cX4_slot 11 = .ok (.ireturn, 1) := dk_172 (dk_at dksX4_slot_0 11 rfl rfl)
abbrev cX4_addCue : ByteArray := prog_17_method_116_code
def yX4_addCue : MethodName := ⟨RX4, "addCue", "(IIII)I"⟩
def dkwX4_addCue_5 : List UInt8 := [21, 5, 5, 4, 29, 120, 182, 1, 97, 42, 21, 5, 6, 29, 96, 21, 4, 182, 1, 97, 21, 5, 172]
abbrev dktX4_addCue_5 : List UInt8 := dkwX4_addCue_5 ++ []
def dkwX4_addCue_4 : List UInt8 := [21, 5, 4, 96, 182, 0, 73, 42, 21, 5, 3, 27, 182, 1, 97, 42, 21, 5, 4, 28, 182, 1, 97, 42]
abbrev dktX4_addCue_4 : List UInt8 := dkwX4_addCue_4 ++ dktX4_addCue_5
def dkwX4_addCue_3 : List UInt8 := [16, 20, 160, 0, 9, 42, 6, 182, 0, 98, 172, 42, 182, 1, 113, 42, 182, 0, 88, 54, 5, 42, 16, 8]
abbrev dktX4_addCue_3 : List UInt8 := dkwX4_addCue_3 ++ dktX4_addCue_4
def dkwX4_addCue_2 : List UInt8 := [182, 0, 223, 42, 29, 182, 0, 226, 184, 0, 84, 154, 0, 9, 42, 5, 182, 0, 98, 172, 42, 182, 0, 88]
abbrev dktX4_addCue_2 : List UInt8 := dkwX4_addCue_2 ++ dktX4_addCue_3
def dkwX4_addCue_1 : List UInt8 := [184, 0, 84, 153, 0, 34, 28, 4, 17, 3, 231, 27, 100, 184, 0, 84, 153, 0, 21, 21, 4, 42, 29]
abbrev dktX4_addCue_1 : List UInt8 := dkwX4_addCue_1 ++ dktX4_addCue_2
def dkwX4_addCue_0 : List UInt8 := [42, 3, 181, 0, 63, 42, 29, 182, 0, 220, 154, 0, 9, 42, 4, 182, 0, 98, 172, 27, 3, 17, 3, 230]
abbrev dktX4_addCue_0 : List UInt8 := dkwX4_addCue_0 ++ dktX4_addCue_1
theorem dksX4_addCue_0 : cX4_addCue.data.toList.drop 0 = dktX4_addCue_0 := by decide +kernel
theorem dksX4_addCue_1 : cX4_addCue.data.toList.drop 24 = dktX4_addCue_1 := dk_seg dksX4_addCue_0 24 rfl rfl
theorem dksX4_addCue_2 : cX4_addCue.data.toList.drop 47 = dktX4_addCue_2 := dk_seg dksX4_addCue_1 23 rfl rfl
theorem dksX4_addCue_3 : cX4_addCue.data.toList.drop 71 = dktX4_addCue_3 := dk_seg dksX4_addCue_2 24 rfl rfl
theorem dksX4_addCue_4 : cX4_addCue.data.toList.drop 95 = dktX4_addCue_4 := dk_seg dksX4_addCue_3 24 rfl rfl
theorem dksX4_addCue_5 : cX4_addCue.data.toList.drop 119 = dktX4_addCue_5 := dk_seg dksX4_addCue_4 24 rfl rfl
theorem dX4_addCue_0 : decode cX4_addCue 0 = .ok (.aload_n 0, 1) := dk_42 (dk_at dksX4_addCue_0 0 rfl rfl)
theorem dX4_addCue_1 : decode cX4_addCue 1 = .ok (.iconst 0, 1) := dk_3 (dk_at dksX4_addCue_0 1 rfl rfl)
theorem dX4_addCue_2 : decode cX4_addCue 2 = .ok (.putfield 63, 3) := dk_181 0 63 (dk_at dksX4_addCue_0 2 rfl rfl)
theorem dX4_addCue_5 : decode cX4_addCue 5 = .ok (.aload_n 0, 1) := dk_42 (dk_at dksX4_addCue_0 5 rfl rfl)
theorem dX4_addCue_6 : decode cX4_addCue 6 = .ok (.iload_n 3, 1) := dk_29 (dk_at dksX4_addCue_0 6 rfl rfl)
theorem dX4_addCue_7 : decode cX4_addCue 7 = .ok (.invokevirtual 220, 3) := dk_182 0 220 (dk_at dksX4_addCue_0 7 rfl rfl)
theorem dX4_addCue_10 : decode cX4_addCue 10 = .ok (.ifCond .ne 9, 3) := dk_154 0 9 (dk_at dksX4_addCue_0 10 rfl rfl)
theorem dX4_addCue_13 : decode cX4_addCue 13 = .ok (.aload_n 0, 1) := dk_42 (dk_at dksX4_addCue_0 13 rfl rfl)
theorem dX4_addCue_14 : decode cX4_addCue 14 = .ok (.iconst 1, 1) := dk_4 (dk_at dksX4_addCue_0 14 rfl rfl)
theorem dX4_addCue_15 : decode cX4_addCue 15 = .ok (.invokevirtual 98, 3) := dk_182 0 98 (dk_at dksX4_addCue_0 15 rfl rfl)
theorem dX4_addCue_18 : decode cX4_addCue 18 = .ok (.ireturn, 1) := dk_172 (dk_at dksX4_addCue_0 18 rfl rfl)
theorem dX4_addCue_19 : decode cX4_addCue 19 = .ok (.iload_n 1, 1) := dk_27 (dk_at dksX4_addCue_0 19 rfl rfl)
theorem dX4_addCue_20 : decode cX4_addCue 20 = .ok (.iconst 0, 1) := dk_3 (dk_at dksX4_addCue_0 20 rfl rfl)
theorem dX4_addCue_21 : decode cX4_addCue 21 = .ok (.sipush 998, 3) := dk_17 3 230 (dk_at dksX4_addCue_0 21 rfl rfl)
theorem dX4_addCue_24 : decode cX4_addCue 24 = .ok (.invokestatic 84, 3) := dk_184 0 84 (dk_at dksX4_addCue_1 0 rfl rfl)
theorem dX4_addCue_27 : decode cX4_addCue 27 = .ok (.ifCond .eq 34, 3) := dk_153 0 34 (dk_at dksX4_addCue_1 3 rfl rfl)
theorem dX4_addCue_30 : decode cX4_addCue 30 = .ok (.iload_n 2, 1) := dk_28 (dk_at dksX4_addCue_1 6 rfl rfl)
theorem dX4_addCue_31 : decode cX4_addCue 31 = .ok (.iconst 1, 1) := dk_4 (dk_at dksX4_addCue_1 7 rfl rfl)
theorem dX4_addCue_32 : decode cX4_addCue 32 = .ok (.sipush 999, 3) := dk_17 3 231 (dk_at dksX4_addCue_1 8 rfl rfl)
theorem dX4_addCue_35 : decode cX4_addCue 35 = .ok (.iload_n 1, 1) := dk_27 (dk_at dksX4_addCue_1 11 rfl rfl)
theorem dX4_addCue_36 : decode cX4_addCue 36 = .ok (.isub, 1) := dk_100 (dk_at dksX4_addCue_1 12 rfl rfl)
theorem dX4_addCue_37 : decode cX4_addCue 37 = .ok (.invokestatic 84, 3) := dk_184 0 84 (dk_at dksX4_addCue_1 13 rfl rfl)
theorem dX4_addCue_40 : decode cX4_addCue 40 = .ok (.ifCond .eq 21, 3) := dk_153 0 21 (dk_at dksX4_addCue_1 16 rfl rfl)
theorem dX4_addCue_43 : decode cX4_addCue 43 = .ok (.iload 4, 2) := dk_21 4 (dk_at dksX4_addCue_1 19 rfl rfl)
theorem dX4_addCue_45 : decode cX4_addCue 45 = .ok (.aload_n 0, 1) := dk_42 (dk_at dksX4_addCue_1 21 rfl rfl)
theorem dX4_addCue_46 : decode cX4_addCue 46 = .ok (.iload_n 3, 1) := dk_29 (dk_at dksX4_addCue_1 22 rfl rfl)
theorem dX4_addCue_47 : decode cX4_addCue 47 = .ok (.invokevirtual 223, 3) := dk_182 0 223 (dk_at dksX4_addCue_2 0 rfl rfl)
theorem dX4_addCue_50 : decode cX4_addCue 50 = .ok (.aload_n 0, 1) := dk_42 (dk_at dksX4_addCue_2 3 rfl rfl)
theorem dX4_addCue_51 : decode cX4_addCue 51 = .ok (.iload_n 3, 1) := dk_29 (dk_at dksX4_addCue_2 4 rfl rfl)
theorem dX4_addCue_52 : decode cX4_addCue 52 = .ok (.invokevirtual 226, 3) := dk_182 0 226 (dk_at dksX4_addCue_2 5 rfl rfl)
theorem dX4_addCue_55 : decode cX4_addCue 55 = .ok (.invokestatic 84, 3) := dk_184 0 84 (dk_at dksX4_addCue_2 8 rfl rfl)
theorem dX4_addCue_58 : decode cX4_addCue 58 = .ok (.ifCond .ne 9, 3) := dk_154 0 9 (dk_at dksX4_addCue_2 11 rfl rfl)
theorem dX4_addCue_61 : decode cX4_addCue 61 = .ok (.aload_n 0, 1) := dk_42 (dk_at dksX4_addCue_2 14 rfl rfl)
theorem dX4_addCue_62 : decode cX4_addCue 62 = .ok (.iconst 2, 1) := dk_5 (dk_at dksX4_addCue_2 15 rfl rfl)
theorem dX4_addCue_63 : decode cX4_addCue 63 = .ok (.invokevirtual 98, 3) := dk_182 0 98 (dk_at dksX4_addCue_2 16 rfl rfl)
theorem dX4_addCue_66 : decode cX4_addCue 66 = .ok (.ireturn, 1) := dk_172 (dk_at dksX4_addCue_2 19 rfl rfl)
theorem dX4_addCue_67 : decode cX4_addCue 67 = .ok (.aload_n 0, 1) := dk_42 (dk_at dksX4_addCue_2 20 rfl rfl)
theorem dX4_addCue_68 : decode cX4_addCue 68 = .ok (.invokevirtual 88, 3) := dk_182 0 88 (dk_at dksX4_addCue_2 21 rfl rfl)
theorem dX4_addCue_71 : decode cX4_addCue 71 = .ok (.bipush 20, 2) := dk_16 20 (dk_at dksX4_addCue_3 0 rfl rfl)
theorem dX4_addCue_73 : decode cX4_addCue 73 = .ok (.if_icmp .ne 9, 3) := dk_160 0 9 (dk_at dksX4_addCue_3 2 rfl rfl)
theorem dX4_addCue_76 : decode cX4_addCue 76 = .ok (.aload_n 0, 1) := dk_42 (dk_at dksX4_addCue_3 5 rfl rfl)
theorem dX4_addCue_77 : decode cX4_addCue 77 = .ok (.iconst 3, 1) := dk_6 (dk_at dksX4_addCue_3 6 rfl rfl)
theorem dX4_addCue_78 : decode cX4_addCue 78 = .ok (.invokevirtual 98, 3) := dk_182 0 98 (dk_at dksX4_addCue_3 7 rfl rfl)
theorem dX4_addCue_81 : decode cX4_addCue 81 = .ok (.ireturn, 1) := dk_172 (dk_at dksX4_addCue_3 10 rfl rfl)
theorem dX4_addCue_82 : decode cX4_addCue 82 = .ok (.aload_n 0, 1) := dk_42 (dk_at dksX4_addCue_3 11 rfl rfl)
theorem dX4_addCue_83 : decode cX4_addCue 83 = .ok (.invokevirtual 369, 3) := dk_182 1 113 (dk_at dksX4_addCue_3 12 rfl rfl)
theorem dX4_addCue_86 : decode cX4_addCue 86 = .ok (.aload_n 0, 1) := dk_42 (dk_at dksX4_addCue_3 15 rfl rfl)
theorem dX4_addCue_87 : decode cX4_addCue 87 = .ok (.invokevirtual 88, 3) := dk_182 0 88 (dk_at dksX4_addCue_3 16 rfl rfl)
theorem dX4_addCue_90 : decode cX4_addCue 90 = .ok (.istore 5, 2) := dk_54 5 (dk_at dksX4_addCue_3 19 rfl rfl)
theorem dX4_addCue_92 : decode cX4_addCue 92 = .ok (.aload_n 0, 1) := dk_42 (dk_at dksX4_addCue_3 21 rfl rfl)
theorem dX4_addCue_93 : decode cX4_addCue 93 = .ok (.bipush 8, 2) := dk_16 8 (dk_at dksX4_addCue_3 22 rfl rfl)
theorem dX4_addCue_95 : decode cX4_addCue 95 = .ok (.iload 5, 2) := dk_21 5 (dk_at dksX4_addCue_4 0 rfl rfl)
theorem dX4_addCue_97 : decode cX4_addCue 97 = .ok (.iconst 1, 1) := dk_4 (dk_at dksX4_addCue_4 2 rfl rfl)
theorem dX4_addCue_98 : decode cX4_addCue 98 = .ok (.iadd, 1) := dk_96 (dk_at dksX4_addCue_4 3 rfl rfl)
theorem dX4_addCue_99 : decode cX4_addCue 99 = .ok (.invokevirtual 73, 3) := dk_182 0 73 (dk_at dksX4_addCue_4 4 rfl rfl)
theorem dX4_addCue_102 : decode cX4_addCue 102 = .ok (.aload_n 0, 1) := dk_42 (dk_at dksX4_addCue_4 7 rfl rfl)
theorem dX4_addCue_103 : decode cX4_addCue 103 = .ok (.iload 5, 2) := dk_21 5 (dk_at dksX4_addCue_4 8 rfl rfl)
theorem dX4_addCue_105 : decode cX4_addCue 105 = .ok (.iconst 0, 1) := dk_3 (dk_at dksX4_addCue_4 10 rfl rfl)
theorem dX4_addCue_106 : decode cX4_addCue 106 = .ok (.iload_n 1, 1) := dk_27 (dk_at dksX4_addCue_4 11 rfl rfl)
theorem dX4_addCue_107 : decode cX4_addCue 107 = .ok (.invokevirtual 353, 3) := dk_182 1 97 (dk_at dksX4_addCue_4 12 rfl rfl)
theorem dX4_addCue_110 : decode cX4_addCue 110 = .ok (.aload_n 0, 1) := dk_42 (dk_at dksX4_addCue_4 15 rfl rfl)
theorem dX4_addCue_111 : decode cX4_addCue 111 = .ok (.iload 5, 2) := dk_21 5 (dk_at dksX4_addCue_4 16 rfl rfl)
theorem dX4_addCue_113 : decode cX4_addCue 113 = .ok (.iconst 1, 1) := dk_4 (dk_at dksX4_addCue_4 18 rfl rfl)
theorem dX4_addCue_114 : decode cX4_addCue 114 = .ok (.iload_n 2, 1) := dk_28 (dk_at dksX4_addCue_4 19 rfl rfl)
theorem dX4_addCue_115 : decode cX4_addCue 115 = .ok (.invokevirtual 353, 3) := dk_182 1 97 (dk_at dksX4_addCue_4 20 rfl rfl)
theorem dX4_addCue_118 : decode cX4_addCue 118 = .ok (.aload_n 0, 1) := dk_42 (dk_at dksX4_addCue_4 23 rfl rfl)
theorem dX4_addCue_119 : decode cX4_addCue 119 = .ok (.iload 5, 2) := dk_21 5 (dk_at dksX4_addCue_5 0 rfl rfl)
theorem dX4_addCue_121 : decode cX4_addCue 121 = .ok (.iconst 2, 1) := dk_5 (dk_at dksX4_addCue_5 2 rfl rfl)
theorem dX4_addCue_122 : decode cX4_addCue 122 = .ok (.iconst 1, 1) := dk_4 (dk_at dksX4_addCue_5 3 rfl rfl)
theorem dX4_addCue_123 : decode cX4_addCue 123 = .ok (.iload_n 3, 1) := dk_29 (dk_at dksX4_addCue_5 4 rfl rfl)
theorem dX4_addCue_124 : decode cX4_addCue 124 = .ok (.ishl, 1) := dk_120 (dk_at dksX4_addCue_5 5 rfl rfl)
theorem dX4_addCue_125 : decode cX4_addCue 125 = .ok (.invokevirtual 353, 3) := dk_182 1 97 (dk_at dksX4_addCue_5 6 rfl rfl)
theorem dX4_addCue_128 : decode cX4_addCue 128 = .ok (.aload_n 0, 1) := dk_42 (dk_at dksX4_addCue_5 9 rfl rfl)
theorem dX4_addCue_129 : decode cX4_addCue 129 = .ok (.iload 5, 2) := dk_21 5 (dk_at dksX4_addCue_5 10 rfl rfl)
theorem dX4_addCue_131 : decode cX4_addCue 131 = .ok (.iconst 3, 1) := dk_6 (dk_at dksX4_addCue_5 12 rfl rfl)
theorem dX4_addCue_132 : decode cX4_addCue 132 = .ok (.iload_n 3, 1) := dk_29 (dk_at dksX4_addCue_5 13 rfl rfl)
theorem dX4_addCue_133 : decode cX4_addCue 133 = .ok (.iadd, 1) := dk_96 (dk_at dksX4_addCue_5 14 rfl rfl)
theorem dX4_addCue_134 : decode cX4_addCue 134 = .ok (.iload 4, 2) := dk_21 4 (dk_at dksX4_addCue_5 15 rfl rfl)
theorem dX4_addCue_136 : decode cX4_addCue 136 = .ok (.invokevirtual 353, 3) := dk_182 1 97 (dk_at dksX4_addCue_5 17 rfl rfl)
theorem dX4_addCue_139 : decode cX4_addCue 139 = .ok (.iload 5, 2) := dk_21 5 (dk_at dksX4_addCue_5 20 rfl rfl)
theorem dX4_addCue_141 : decode cX4_addCue 141 = .ok (.ireturn, 1) := dk_172 (dk_at dksX4_addCue_5 22 rfl rfl)
abbrev cX4_keep : ByteArray := prog_17_method_114_code
def yX4_keep : MethodName := ⟨RX4, "keep", "()V"⟩
def dkwX4_keep_2 : List UInt8 := [180, 0, 172, 4, 96, 181, 0, 172, 177]
abbrev dktX4_keep_2 : List UInt8 := dkwX4_keep_2 ++ []
def dkwX4_keep_1 : List UInt8 := [180, 0, 172, 4, 100, 181, 0, 172, 42, 3, 42, 42, 180, 0, 172, 182, 1, 110, 182, 0, 169, 42, 89]
abbrev dktX4_keep_1 : List UInt8 := dkwX4_keep_1 ++ dktX4_keep_2
def dkwX4_keep_0 : List UInt8 := [42, 180, 0, 172, 16, 10, 160, 0, 26, 42, 42, 180, 0, 175, 4, 96, 16, 10, 112, 181, 0, 175, 42, 89]
abbrev dktX4_keep_0 : List UInt8 := dkwX4_keep_0 ++ dktX4_keep_1
theorem dksX4_keep_0 : cX4_keep.data.toList.drop 0 = dktX4_keep_0 := by decide +kernel
theorem dksX4_keep_1 : cX4_keep.data.toList.drop 24 = dktX4_keep_1 := dk_seg dksX4_keep_0 24 rfl rfl
theorem dksX4_keep_2 : cX4_keep.data.toList.drop 47 = dktX4_keep_2 := dk_seg dksX4_keep_1 23 rfl rfl
theorem dX4_keep_0 : decode cX4_keep 0 = .ok (.aload_n 0, 1) := dk_42 (dk_at dksX4_keep_0 0 rfl rfl)
theorem dX4_keep_1 : decode cX4_keep 1 = .ok (.getfield 172, 3) := dk_180 0 172 (dk_at dksX4_keep_0 1 rfl rfl)
theorem dX4_keep_4 : decode cX4_keep 4 = .ok (.bipush 10, 2) := dk_16 10 (dk_at dksX4_keep_0 4 rfl rfl)
theorem dX4_keep_6 : decode cX4_keep 6 = .ok (.if_icmp .ne 26, 3) := dk_160 0 26 (dk_at dksX4_keep_0 6 rfl rfl)
theorem dX4_keep_9 : decode cX4_keep 9 = .ok (.aload_n 0, 1) := dk_42 (dk_at dksX4_keep_0 9 rfl rfl)
theorem dX4_keep_10 : decode cX4_keep 10 = .ok (.aload_n 0, 1) := dk_42 (dk_at dksX4_keep_0 10 rfl rfl)
theorem dX4_keep_11 : decode cX4_keep 11 = .ok (.getfield 175, 3) := dk_180 0 175 (dk_at dksX4_keep_0 11 rfl rfl)
theorem dX4_keep_14 : decode cX4_keep 14 = .ok (.iconst 1, 1) := dk_4 (dk_at dksX4_keep_0 14 rfl rfl)
theorem dX4_keep_15 : decode cX4_keep 15 = .ok (.iadd, 1) := dk_96 (dk_at dksX4_keep_0 15 rfl rfl)
theorem dX4_keep_16 : decode cX4_keep 16 = .ok (.bipush 10, 2) := dk_16 10 (dk_at dksX4_keep_0 16 rfl rfl)
theorem dX4_keep_18 : decode cX4_keep 18 = .ok (.irem, 1) := dk_112 (dk_at dksX4_keep_0 18 rfl rfl)
theorem dX4_keep_19 : decode cX4_keep 19 = .ok (.putfield 175, 3) := dk_181 0 175 (dk_at dksX4_keep_0 19 rfl rfl)
theorem dX4_keep_22 : decode cX4_keep 22 = .ok (.aload_n 0, 1) := dk_42 (dk_at dksX4_keep_0 22 rfl rfl)
theorem dX4_keep_23 : decode cX4_keep 23 = .ok (.dup, 1) := dk_89 (dk_at dksX4_keep_0 23 rfl rfl)
theorem dX4_keep_24 : decode cX4_keep 24 = .ok (.getfield 172, 3) := dk_180 0 172 (dk_at dksX4_keep_1 0 rfl rfl)
theorem dX4_keep_27 : decode cX4_keep 27 = .ok (.iconst 1, 1) := dk_4 (dk_at dksX4_keep_1 3 rfl rfl)
theorem dX4_keep_28 : decode cX4_keep 28 = .ok (.isub, 1) := dk_100 (dk_at dksX4_keep_1 4 rfl rfl)
theorem dX4_keep_29 : decode cX4_keep 29 = .ok (.putfield 172, 3) := dk_181 0 172 (dk_at dksX4_keep_1 5 rfl rfl)
theorem dX4_keep_32 : decode cX4_keep 32 = .ok (.aload_n 0, 1) := dk_42 (dk_at dksX4_keep_1 8 rfl rfl)
theorem dX4_keep_33 : decode cX4_keep 33 = .ok (.iconst 0, 1) := dk_3 (dk_at dksX4_keep_1 9 rfl rfl)
theorem dX4_keep_34 : decode cX4_keep 34 = .ok (.aload_n 0, 1) := dk_42 (dk_at dksX4_keep_1 10 rfl rfl)
theorem dX4_keep_35 : decode cX4_keep 35 = .ok (.aload_n 0, 1) := dk_42 (dk_at dksX4_keep_1 11 rfl rfl)
theorem dX4_keep_36 : decode cX4_keep 36 = .ok (.getfield 172, 3) := dk_180 0 172 (dk_at dksX4_keep_1 12 rfl rfl)
theorem dX4_keep_39 : decode cX4_keep 39 = .ok (.invokevirtual 366, 3) := dk_182 1 110 (dk_at dksX4_keep_1 15 rfl rfl)
theorem dX4_keep_42 : decode cX4_keep 42 = .ok (.invokevirtual 169, 3) := dk_182 0 169 (dk_at dksX4_keep_1 18 rfl rfl)
theorem dX4_keep_45 : decode cX4_keep 45 = .ok (.aload_n 0, 1) := dk_42 (dk_at dksX4_keep_1 21 rfl rfl)
theorem dX4_keep_46 : decode cX4_keep 46 = .ok (.dup, 1) := dk_89 (dk_at dksX4_keep_1 22 rfl rfl)
theorem dX4_keep_47 : decode cX4_keep 47 = .ok (.getfield 172, 3) := dk_180 0 172 (dk_at dksX4_keep_2 0 rfl rfl)
theorem dX4_keep_50 : decode cX4_keep 50 = .ok (.iconst 1, 1) := dk_4 (dk_at dksX4_keep_2 3 rfl rfl)
theorem dX4_keep_51 : decode cX4_keep 51 = .ok (.iadd, 1) := dk_96 (dk_at dksX4_keep_2 4 rfl rfl)
theorem dX4_keep_52 : decode cX4_keep 52 = .ok (.putfield 172, 3) := dk_181 0 172 (dk_at dksX4_keep_2 5 rfl rfl)
theorem dX4_keep_55 : decode cX4_keep 55 = .ok (.return_, 1) := dk_177 (dk_at dksX4_keep_2 8 rfl rfl)
abbrev cX4_setTarget : ByteArray := prog_17_method_118_code
def yX4_setTarget : MethodName := ⟨RX4, "setTarget", "(III)I"⟩
def dkwX4_setTarget_3 : List UInt8 := [42, 27, 6, 28, 96, 29, 182, 1, 97, 42, 42, 27, 5, 182, 0, 77, 182, 1, 116, 172]
abbrev dktX4_setTarget_3 : List UInt8 := dkwX4_setTarget_3 ++ []
def dkwX4_setTarget_2 : List UInt8 := [182, 0, 98, 172, 42, 182, 1, 113, 42, 27, 5, 42, 27, 5, 182, 0, 77, 4, 28, 120, 128, 182, 1, 97]
abbrev dktX4_setTarget_2 : List UInt8 := dkwX4_setTarget_2 ++ dktX4_setTarget_3
def dkwX4_setTarget_1 : List UInt8 := [182, 0, 98, 172, 29, 42, 28, 182, 0, 223, 42, 28, 182, 0, 226, 184, 0, 84, 154, 0, 9, 42, 5]
abbrev dktX4_setTarget_1 : List UInt8 := dkwX4_setTarget_1 ++ dktX4_setTarget_2
def dkwX4_setTarget_0 : List UInt8 := [42, 3, 181, 0, 63, 42, 27, 182, 0, 229, 153, 0, 11, 42, 28, 182, 0, 220, 154, 0, 9, 42, 4]
abbrev dktX4_setTarget_0 : List UInt8 := dkwX4_setTarget_0 ++ dktX4_setTarget_1
theorem dksX4_setTarget_0 : cX4_setTarget.data.toList.drop 0 = dktX4_setTarget_0 := by decide +kernel
theorem dksX4_setTarget_1 : cX4_setTarget.data.toList.drop 23 = dktX4_setTarget_1 := dk_seg dksX4_setTarget_0 23 rfl rfl
theorem dksX4_setTarget_2 : cX4_setTarget.data.toList.drop 46 = dktX4_setTarget_2 := dk_seg dksX4_setTarget_1 23 rfl rfl
theorem dksX4_setTarget_3 : cX4_setTarget.data.toList.drop 70 = dktX4_setTarget_3 := dk_seg dksX4_setTarget_2 24 rfl rfl
theorem dX4_setTarget_0 : decode cX4_setTarget 0 = .ok (.aload_n 0, 1) := dk_42 (dk_at dksX4_setTarget_0 0 rfl rfl)
theorem dX4_setTarget_1 : decode cX4_setTarget 1 = .ok (.iconst 0, 1) := dk_3 (dk_at dksX4_setTarget_0 1 rfl rfl)
theorem dX4_setTarget_2 : decode cX4_setTarget 2 = .ok (.putfield 63, 3) := dk_181 0 63 (dk_at dksX4_setTarget_0 2 rfl rfl)
theorem dX4_setTarget_5 : decode cX4_setTarget 5 = .ok (.aload_n 0, 1) := dk_42 (dk_at dksX4_setTarget_0 5 rfl rfl)
theorem dX4_setTarget_6 : decode cX4_setTarget 6 = .ok (.iload_n 1, 1) := dk_27 (dk_at dksX4_setTarget_0 6 rfl rfl)
theorem dX4_setTarget_7 : decode cX4_setTarget 7 = .ok (.invokevirtual 229, 3) := dk_182 0 229 (dk_at dksX4_setTarget_0 7 rfl rfl)
theorem dX4_setTarget_10 : decode cX4_setTarget 10 = .ok (.ifCond .eq 11, 3) := dk_153 0 11 (dk_at dksX4_setTarget_0 10 rfl rfl)
theorem dX4_setTarget_13 : decode cX4_setTarget 13 = .ok (.aload_n 0, 1) := dk_42 (dk_at dksX4_setTarget_0 13 rfl rfl)
theorem dX4_setTarget_14 : decode cX4_setTarget 14 = .ok (.iload_n 2, 1) := dk_28 (dk_at dksX4_setTarget_0 14 rfl rfl)
theorem dX4_setTarget_15 : decode cX4_setTarget 15 = .ok (.invokevirtual 220, 3) := dk_182 0 220 (dk_at dksX4_setTarget_0 15 rfl rfl)
theorem dX4_setTarget_18 : decode cX4_setTarget 18 = .ok (.ifCond .ne 9, 3) := dk_154 0 9 (dk_at dksX4_setTarget_0 18 rfl rfl)
theorem dX4_setTarget_21 : decode cX4_setTarget 21 = .ok (.aload_n 0, 1) := dk_42 (dk_at dksX4_setTarget_0 21 rfl rfl)
theorem dX4_setTarget_22 : decode cX4_setTarget 22 = .ok (.iconst 1, 1) := dk_4 (dk_at dksX4_setTarget_0 22 rfl rfl)
theorem dX4_setTarget_23 : decode cX4_setTarget 23 = .ok (.invokevirtual 98, 3) := dk_182 0 98 (dk_at dksX4_setTarget_1 0 rfl rfl)
theorem dX4_setTarget_26 : decode cX4_setTarget 26 = .ok (.ireturn, 1) := dk_172 (dk_at dksX4_setTarget_1 3 rfl rfl)
theorem dX4_setTarget_27 : decode cX4_setTarget 27 = .ok (.iload_n 3, 1) := dk_29 (dk_at dksX4_setTarget_1 4 rfl rfl)
theorem dX4_setTarget_28 : decode cX4_setTarget 28 = .ok (.aload_n 0, 1) := dk_42 (dk_at dksX4_setTarget_1 5 rfl rfl)
theorem dX4_setTarget_29 : decode cX4_setTarget 29 = .ok (.iload_n 2, 1) := dk_28 (dk_at dksX4_setTarget_1 6 rfl rfl)
theorem dX4_setTarget_30 : decode cX4_setTarget 30 = .ok (.invokevirtual 223, 3) := dk_182 0 223 (dk_at dksX4_setTarget_1 7 rfl rfl)
theorem dX4_setTarget_33 : decode cX4_setTarget 33 = .ok (.aload_n 0, 1) := dk_42 (dk_at dksX4_setTarget_1 10 rfl rfl)
theorem dX4_setTarget_34 : decode cX4_setTarget 34 = .ok (.iload_n 2, 1) := dk_28 (dk_at dksX4_setTarget_1 11 rfl rfl)
theorem dX4_setTarget_35 : decode cX4_setTarget 35 = .ok (.invokevirtual 226, 3) := dk_182 0 226 (dk_at dksX4_setTarget_1 12 rfl rfl)
theorem dX4_setTarget_38 : decode cX4_setTarget 38 = .ok (.invokestatic 84, 3) := dk_184 0 84 (dk_at dksX4_setTarget_1 15 rfl rfl)
theorem dX4_setTarget_41 : decode cX4_setTarget 41 = .ok (.ifCond .ne 9, 3) := dk_154 0 9 (dk_at dksX4_setTarget_1 18 rfl rfl)
theorem dX4_setTarget_44 : decode cX4_setTarget 44 = .ok (.aload_n 0, 1) := dk_42 (dk_at dksX4_setTarget_1 21 rfl rfl)
theorem dX4_setTarget_45 : decode cX4_setTarget 45 = .ok (.iconst 2, 1) := dk_5 (dk_at dksX4_setTarget_1 22 rfl rfl)
theorem dX4_setTarget_46 : decode cX4_setTarget 46 = .ok (.invokevirtual 98, 3) := dk_182 0 98 (dk_at dksX4_setTarget_2 0 rfl rfl)
theorem dX4_setTarget_49 : decode cX4_setTarget 49 = .ok (.ireturn, 1) := dk_172 (dk_at dksX4_setTarget_2 3 rfl rfl)
theorem dX4_setTarget_50 : decode cX4_setTarget 50 = .ok (.aload_n 0, 1) := dk_42 (dk_at dksX4_setTarget_2 4 rfl rfl)
theorem dX4_setTarget_51 : decode cX4_setTarget 51 = .ok (.invokevirtual 369, 3) := dk_182 1 113 (dk_at dksX4_setTarget_2 5 rfl rfl)
theorem dX4_setTarget_54 : decode cX4_setTarget 54 = .ok (.aload_n 0, 1) := dk_42 (dk_at dksX4_setTarget_2 8 rfl rfl)
theorem dX4_setTarget_55 : decode cX4_setTarget 55 = .ok (.iload_n 1, 1) := dk_27 (dk_at dksX4_setTarget_2 9 rfl rfl)
theorem dX4_setTarget_56 : decode cX4_setTarget 56 = .ok (.iconst 2, 1) := dk_5 (dk_at dksX4_setTarget_2 10 rfl rfl)
theorem dX4_setTarget_57 : decode cX4_setTarget 57 = .ok (.aload_n 0, 1) := dk_42 (dk_at dksX4_setTarget_2 11 rfl rfl)
theorem dX4_setTarget_58 : decode cX4_setTarget 58 = .ok (.iload_n 1, 1) := dk_27 (dk_at dksX4_setTarget_2 12 rfl rfl)
theorem dX4_setTarget_59 : decode cX4_setTarget 59 = .ok (.iconst 2, 1) := dk_5 (dk_at dksX4_setTarget_2 13 rfl rfl)
theorem dX4_setTarget_60 : decode cX4_setTarget 60 = .ok (.invokevirtual 77, 3) := dk_182 0 77 (dk_at dksX4_setTarget_2 14 rfl rfl)
theorem dX4_setTarget_63 : decode cX4_setTarget 63 = .ok (.iconst 1, 1) := dk_4 (dk_at dksX4_setTarget_2 17 rfl rfl)
theorem dX4_setTarget_64 : decode cX4_setTarget 64 = .ok (.iload_n 2, 1) := dk_28 (dk_at dksX4_setTarget_2 18 rfl rfl)
theorem dX4_setTarget_65 : decode cX4_setTarget 65 = .ok (.ishl, 1) := dk_120 (dk_at dksX4_setTarget_2 19 rfl rfl)
theorem dX4_setTarget_66 : decode cX4_setTarget 66 = .ok (.ior, 1) := dk_128 (dk_at dksX4_setTarget_2 20 rfl rfl)
theorem dX4_setTarget_67 : decode cX4_setTarget 67 = .ok (.invokevirtual 353, 3) := dk_182 1 97 (dk_at dksX4_setTarget_2 21 rfl rfl)
theorem dX4_setTarget_70 : decode cX4_setTarget 70 = .ok (.aload_n 0, 1) := dk_42 (dk_at dksX4_setTarget_3 0 rfl rfl)
theorem dX4_setTarget_71 : decode cX4_setTarget 71 = .ok (.iload_n 1, 1) := dk_27 (dk_at dksX4_setTarget_3 1 rfl rfl)
theorem dX4_setTarget_72 : decode cX4_setTarget 72 = .ok (.iconst 3, 1) := dk_6 (dk_at dksX4_setTarget_3 2 rfl rfl)
theorem dX4_setTarget_73 : decode cX4_setTarget 73 = .ok (.iload_n 2, 1) := dk_28 (dk_at dksX4_setTarget_3 3 rfl rfl)
theorem dX4_setTarget_74 : decode cX4_setTarget 74 = .ok (.iadd, 1) := dk_96 (dk_at dksX4_setTarget_3 4 rfl rfl)
theorem dX4_setTarget_75 : decode cX4_setTarget 75 = .ok (.iload_n 3, 1) := dk_29 (dk_at dksX4_setTarget_3 5 rfl rfl)
theorem dX4_setTarget_76 : decode cX4_setTarget 76 = .ok (.invokevirtual 353, 3) := dk_182 1 97 (dk_at dksX4_setTarget_3 6 rfl rfl)
theorem dX4_setTarget_79 : decode cX4_setTarget 79 = .ok (.aload_n 0, 1) := dk_42 (dk_at dksX4_setTarget_3 9 rfl rfl)
theorem dX4_setTarget_80 : decode cX4_setTarget 80 = .ok (.aload_n 0, 1) := dk_42 (dk_at dksX4_setTarget_3 10 rfl rfl)
theorem dX4_setTarget_81 : decode cX4_setTarget 81 = .ok (.iload_n 1, 1) := dk_27 (dk_at dksX4_setTarget_3 11 rfl rfl)
theorem dX4_setTarget_82 : decode cX4_setTarget 82 = .ok (.iconst 2, 1) := dk_5 (dk_at dksX4_setTarget_3 12 rfl rfl)
theorem dX4_setTarget_83 : decode cX4_setTarget 83 = .ok (.invokevirtual 77, 3) := dk_182 0 77 (dk_at dksX4_setTarget_3 13 rfl rfl)
theorem dX4_setTarget_86 : decode cX4_setTarget 86 = .ok (.invokevirtual 372, 3) := dk_182 1 116 (dk_at dksX4_setTarget_3 16 rfl rfl)
theorem dX4_setTarget_89 : decode cX4_setTarget 89 = .ok (.ireturn, 1) := dk_172 (dk_at dksX4_setTarget_3 19 rfl rfl)
abbrev cX4_ones : ByteArray := prog_17_method_117_code
def yX4_ones : MethodName := ⟨RX4, "ones", "(I)I"⟩
def dkwX4_ones_0 : List UInt8 := [3, 61, 27, 62, 29, 153, 0, 15, 132, 2, 1, 29, 29, 4, 100, 126, 62, 167, 255, 243, 28, 172]
abbrev dktX4_ones_0 : List UInt8 := dkwX4_ones_0 ++ []
theorem dksX4_ones_0 : cX4_ones.data.toList.drop 0 = dktX4_ones_0 := by decide +kernel
theorem dX4_ones_0 : decode cX4_ones 0 = .ok (.iconst 0, 1) := dk_3 (dk_at dksX4_ones_0 0 rfl rfl)
theorem dX4_ones_1 : decode cX4_ones 1 = .ok (.istore_n 2, 1) := dk_61 (dk_at dksX4_ones_0 1 rfl rfl)
theorem dX4_ones_2 : decode cX4_ones 2 = .ok (.iload_n 1, 1) := dk_27 (dk_at dksX4_ones_0 2 rfl rfl)
theorem dX4_ones_3 : decode cX4_ones 3 = .ok (.istore_n 3, 1) := dk_62 (dk_at dksX4_ones_0 3 rfl rfl)
theorem dX4_ones_4 : decode cX4_ones 4 = .ok (.iload_n 3, 1) := dk_29 (dk_at dksX4_ones_0 4 rfl rfl)
theorem dX4_ones_5 : decode cX4_ones 5 = .ok (.ifCond .eq 15, 3) := dk_153 0 15 (dk_at dksX4_ones_0 5 rfl rfl)
theorem dX4_ones_8 : decode cX4_ones 8 = .ok (.iinc 2 1, 3) := dk_132 2 1 (dk_at dksX4_ones_0 8 rfl rfl)
theorem dX4_ones_11 : decode cX4_ones 11 = .ok (.iload_n 3, 1) := dk_29 (dk_at dksX4_ones_0 11 rfl rfl)
theorem dX4_ones_12 : decode cX4_ones 12 = .ok (.iload_n 3, 1) := dk_29 (dk_at dksX4_ones_0 12 rfl rfl)
theorem dX4_ones_13 : decode cX4_ones 13 = .ok (.iconst 1, 1) := dk_4 (dk_at dksX4_ones_0 13 rfl rfl)
theorem dX4_ones_14 : decode cX4_ones 14 = .ok (.isub, 1) := dk_100 (dk_at dksX4_ones_0 14 rfl rfl)
theorem dX4_ones_15 : decode cX4_ones 15 = .ok (.iand, 1) := dk_126 (dk_at dksX4_ones_0 15 rfl rfl)
theorem dX4_ones_16 : decode cX4_ones 16 = .ok (.istore_n 3, 1) := dk_62 (dk_at dksX4_ones_0 16 rfl rfl)
theorem dX4_ones_17 : decode cX4_ones 17 = .ok (.goto (-13), 3) := dk_167 255 243 (dk_at dksX4_ones_0 17 rfl rfl)
theorem dX4_ones_20 : decode cX4_ones 20 = .ok (.iload_n 2, 1) := dk_28 (dk_at dksX4_ones_0 20 rfl rfl)
theorem dX4_ones_21 : decode cX4_ones 21 = .ok (.ireturn, 1) := dk_172 (dk_at dksX4_ones_0 21 rfl rfl)
abbrev cX4_removeTarget : ByteArray := prog_17_method_119_code
def yX4_removeTarget : MethodName := ⟨RX4, "removeTarget", "(II)I"⟩
def dkwX4_removeTarget_1 : List UInt8 := [4, 28, 120, 2, 130, 126, 182, 1, 97, 42, 27, 6, 28, 96, 182, 0, 77, 172]
abbrev dktX4_removeTarget_1 : List UInt8 := dkwX4_removeTarget_1 ++ []
def dkwX4_removeTarget_0 : List UInt8 := [42, 27, 28, 182, 0, 236, 154, 0, 5, 3, 172, 42, 182, 1, 113, 42, 27, 5, 42, 27, 5, 182, 0, 77]
abbrev dktX4_removeTarget_0 : List UInt8 := dkwX4_removeTarget_0 ++ dktX4_removeTarget_1
theorem dksX4_removeTarget_0 : cX4_removeTarget.data.toList.drop 0 = dktX4_removeTarget_0 := by decide +kernel
theorem dksX4_removeTarget_1 : cX4_removeTarget.data.toList.drop 24 = dktX4_removeTarget_1 := dk_seg dksX4_removeTarget_0 24 rfl rfl
theorem dX4_removeTarget_0 : decode cX4_removeTarget 0 = .ok (.aload_n 0, 1) := dk_42 (dk_at dksX4_removeTarget_0 0 rfl rfl)
theorem dX4_removeTarget_1 : decode cX4_removeTarget 1 = .ok (.iload_n 1, 1) := dk_27 (dk_at dksX4_removeTarget_0 1 rfl rfl)
theorem dX4_removeTarget_2 : decode cX4_removeTarget 2 = .ok (.iload_n 2, 1) := dk_28 (dk_at dksX4_removeTarget_0 2 rfl rfl)
theorem dX4_removeTarget_3 : decode cX4_removeTarget 3 = .ok (.invokevirtual 236, 3) := dk_182 0 236 (dk_at dksX4_removeTarget_0 3 rfl rfl)
theorem dX4_removeTarget_6 : decode cX4_removeTarget 6 = .ok (.ifCond .ne 5, 3) := dk_154 0 5 (dk_at dksX4_removeTarget_0 6 rfl rfl)
theorem dX4_removeTarget_9 : decode cX4_removeTarget 9 = .ok (.iconst 0, 1) := dk_3 (dk_at dksX4_removeTarget_0 9 rfl rfl)
theorem dX4_removeTarget_10 : decode cX4_removeTarget 10 = .ok (.ireturn, 1) := dk_172 (dk_at dksX4_removeTarget_0 10 rfl rfl)
theorem dX4_removeTarget_11 : decode cX4_removeTarget 11 = .ok (.aload_n 0, 1) := dk_42 (dk_at dksX4_removeTarget_0 11 rfl rfl)
theorem dX4_removeTarget_12 : decode cX4_removeTarget 12 = .ok (.invokevirtual 369, 3) := dk_182 1 113 (dk_at dksX4_removeTarget_0 12 rfl rfl)
theorem dX4_removeTarget_15 : decode cX4_removeTarget 15 = .ok (.aload_n 0, 1) := dk_42 (dk_at dksX4_removeTarget_0 15 rfl rfl)
theorem dX4_removeTarget_16 : decode cX4_removeTarget 16 = .ok (.iload_n 1, 1) := dk_27 (dk_at dksX4_removeTarget_0 16 rfl rfl)
theorem dX4_removeTarget_17 : decode cX4_removeTarget 17 = .ok (.iconst 2, 1) := dk_5 (dk_at dksX4_removeTarget_0 17 rfl rfl)
theorem dX4_removeTarget_18 : decode cX4_removeTarget 18 = .ok (.aload_n 0, 1) := dk_42 (dk_at dksX4_removeTarget_0 18 rfl rfl)
theorem dX4_removeTarget_19 : decode cX4_removeTarget 19 = .ok (.iload_n 1, 1) := dk_27 (dk_at dksX4_removeTarget_0 19 rfl rfl)
theorem dX4_removeTarget_20 : decode cX4_removeTarget 20 = .ok (.iconst 2, 1) := dk_5 (dk_at dksX4_removeTarget_0 20 rfl rfl)
theorem dX4_removeTarget_21 : decode cX4_removeTarget 21 = .ok (.invokevirtual 77, 3) := dk_182 0 77 (dk_at dksX4_removeTarget_0 21 rfl rfl)
theorem dX4_removeTarget_24 : decode cX4_removeTarget 24 = .ok (.iconst 1, 1) := dk_4 (dk_at dksX4_removeTarget_1 0 rfl rfl)
theorem dX4_removeTarget_25 : decode cX4_removeTarget 25 = .ok (.iload_n 2, 1) := dk_28 (dk_at dksX4_removeTarget_1 1 rfl rfl)
theorem dX4_removeTarget_26 : decode cX4_removeTarget 26 = .ok (.ishl, 1) := dk_120 (dk_at dksX4_removeTarget_1 2 rfl rfl)
theorem dX4_removeTarget_27 : decode cX4_removeTarget 27 = .ok (.iconst (-1), 1) := dk_2 (dk_at dksX4_removeTarget_1 3 rfl rfl)
theorem dX4_removeTarget_28 : decode cX4_removeTarget 28 = .ok (.ixor, 1) := dk_130 (dk_at dksX4_removeTarget_1 4 rfl rfl)
theorem dX4_removeTarget_29 : decode cX4_removeTarget 29 = .ok (.iand, 1) := dk_126 (dk_at dksX4_removeTarget_1 5 rfl rfl)
theorem dX4_removeTarget_30 : decode cX4_removeTarget 30 = .ok (.invokevirtual 353, 3) := dk_182 1 97 (dk_at dksX4_removeTarget_1 6 rfl rfl)
theorem dX4_removeTarget_33 : decode cX4_removeTarget 33 = .ok (.aload_n 0, 1) := dk_42 (dk_at dksX4_removeTarget_1 9 rfl rfl)
theorem dX4_removeTarget_34 : decode cX4_removeTarget 34 = .ok (.iload_n 1, 1) := dk_27 (dk_at dksX4_removeTarget_1 10 rfl rfl)
theorem dX4_removeTarget_35 : decode cX4_removeTarget 35 = .ok (.iconst 3, 1) := dk_6 (dk_at dksX4_removeTarget_1 11 rfl rfl)
theorem dX4_removeTarget_36 : decode cX4_removeTarget 36 = .ok (.iload_n 2, 1) := dk_28 (dk_at dksX4_removeTarget_1 12 rfl rfl)
theorem dX4_removeTarget_37 : decode cX4_removeTarget 37 = .ok (.iadd, 1) := dk_96 (dk_at dksX4_removeTarget_1 13 rfl rfl)
theorem dX4_removeTarget_38 : decode cX4_removeTarget 38 = .ok (.invokevirtual 77, 3) := dk_182 0 77 (dk_at dksX4_removeTarget_1 14 rfl rfl)
theorem dX4_removeTarget_41 : decode cX4_removeTarget 41 = .ok (.ireturn, 1) := dk_172 (dk_at dksX4_removeTarget_1 17 rfl rfl)
abbrev cX4_removeCue : ByteArray := prog_17_method_120_code
def yX4_removeCue : MethodName := ⟨RX4, "removeCue", "(I)I"⟩
def dkwX4_removeCue_1 : List UInt8 := [27, 182, 1, 107, 42, 182, 0, 88, 172]
abbrev dktX4_removeCue_1 : List UInt8 := dkwX4_removeCue_1 ++ []
def dkwX4_removeCue_0 : List UInt8 := [42, 3, 181, 0, 63, 42, 27, 182, 0, 229, 154, 0, 9, 42, 4, 182, 0, 98, 172, 42, 182, 1, 113, 42]
abbrev dktX4_removeCue_0 : List UInt8 := dkwX4_removeCue_0 ++ dktX4_removeCue_1
theorem dksX4_removeCue_0 : cX4_removeCue.data.toList.drop 0 = dktX4_removeCue_0 := by decide +kernel
theorem dksX4_removeCue_1 : cX4_removeCue.data.toList.drop 24 = dktX4_removeCue_1 := dk_seg dksX4_removeCue_0 24 rfl rfl
theorem dX4_removeCue_0 : decode cX4_removeCue 0 = .ok (.aload_n 0, 1) := dk_42 (dk_at dksX4_removeCue_0 0 rfl rfl)
theorem dX4_removeCue_1 : decode cX4_removeCue 1 = .ok (.iconst 0, 1) := dk_3 (dk_at dksX4_removeCue_0 1 rfl rfl)
theorem dX4_removeCue_2 : decode cX4_removeCue 2 = .ok (.putfield 63, 3) := dk_181 0 63 (dk_at dksX4_removeCue_0 2 rfl rfl)
theorem dX4_removeCue_5 : decode cX4_removeCue 5 = .ok (.aload_n 0, 1) := dk_42 (dk_at dksX4_removeCue_0 5 rfl rfl)
theorem dX4_removeCue_6 : decode cX4_removeCue 6 = .ok (.iload_n 1, 1) := dk_27 (dk_at dksX4_removeCue_0 6 rfl rfl)
theorem dX4_removeCue_7 : decode cX4_removeCue 7 = .ok (.invokevirtual 229, 3) := dk_182 0 229 (dk_at dksX4_removeCue_0 7 rfl rfl)
theorem dX4_removeCue_10 : decode cX4_removeCue 10 = .ok (.ifCond .ne 9, 3) := dk_154 0 9 (dk_at dksX4_removeCue_0 10 rfl rfl)
theorem dX4_removeCue_13 : decode cX4_removeCue 13 = .ok (.aload_n 0, 1) := dk_42 (dk_at dksX4_removeCue_0 13 rfl rfl)
theorem dX4_removeCue_14 : decode cX4_removeCue 14 = .ok (.iconst 1, 1) := dk_4 (dk_at dksX4_removeCue_0 14 rfl rfl)
theorem dX4_removeCue_15 : decode cX4_removeCue 15 = .ok (.invokevirtual 98, 3) := dk_182 0 98 (dk_at dksX4_removeCue_0 15 rfl rfl)
theorem dX4_removeCue_18 : decode cX4_removeCue 18 = .ok (.ireturn, 1) := dk_172 (dk_at dksX4_removeCue_0 18 rfl rfl)
theorem dX4_removeCue_19 : decode cX4_removeCue 19 = .ok (.aload_n 0, 1) := dk_42 (dk_at dksX4_removeCue_0 19 rfl rfl)
theorem dX4_removeCue_20 : decode cX4_removeCue 20 = .ok (.invokevirtual 369, 3) := dk_182 1 113 (dk_at dksX4_removeCue_0 20 rfl rfl)
theorem dX4_removeCue_23 : decode cX4_removeCue 23 = .ok (.aload_n 0, 1) := dk_42 (dk_at dksX4_removeCue_0 23 rfl rfl)
theorem dX4_removeCue_24 : decode cX4_removeCue 24 = .ok (.iload_n 1, 1) := dk_27 (dk_at dksX4_removeCue_1 0 rfl rfl)
theorem dX4_removeCue_25 : decode cX4_removeCue 25 = .ok (.invokevirtual 363, 3) := dk_182 1 107 (dk_at dksX4_removeCue_1 1 rfl rfl)
theorem dX4_removeCue_28 : decode cX4_removeCue 28 = .ok (.aload_n 0, 1) := dk_42 (dk_at dksX4_removeCue_1 4 rfl rfl)
theorem dX4_removeCue_29 : decode cX4_removeCue 29 = .ok (.invokevirtual 88, 3) := dk_182 0 88 (dk_at dksX4_removeCue_1 5 rfl rfl)
theorem dX4_removeCue_32 : decode cX4_removeCue 32 = .ok (.ireturn, 1) := dk_172 (dk_at dksX4_removeCue_1 8 rfl rfl)
abbrev cX4_moveCue : ByteArray := prog_17_method_122_code
def yX4_moveCue : MethodName := ⟨RX4, "moveCue", "(II)I"⟩
def dkwX4_moveCue_2 : List UInt8 := [5, 182, 0, 98, 172]
abbrev dktX4_moveCue_2 : List UInt8 := dkwX4_moveCue_2 ++ []
def dkwX4_moveCue_1 : List UInt8 := [42, 27, 4, 182, 0, 77, 100, 184, 0, 84, 153, 0, 13, 42, 27, 3, 28, 182, 1, 119, 167, 0, 8, 42]
abbrev dktX4_moveCue_1 : List UInt8 := dkwX4_moveCue_1 ++ dktX4_moveCue_2
def dkwX4_moveCue_0 : List UInt8 := [42, 3, 181, 0, 63, 42, 27, 182, 0, 229, 154, 0, 9, 42, 4, 182, 0, 98, 172, 28, 3, 17, 3, 231]
abbrev dktX4_moveCue_0 : List UInt8 := dkwX4_moveCue_0 ++ dktX4_moveCue_1
theorem dksX4_moveCue_0 : cX4_moveCue.data.toList.drop 0 = dktX4_moveCue_0 := by decide +kernel
theorem dksX4_moveCue_1 : cX4_moveCue.data.toList.drop 24 = dktX4_moveCue_1 := dk_seg dksX4_moveCue_0 24 rfl rfl
theorem dksX4_moveCue_2 : cX4_moveCue.data.toList.drop 48 = dktX4_moveCue_2 := dk_seg dksX4_moveCue_1 24 rfl rfl
theorem dX4_moveCue_0 : decode cX4_moveCue 0 = .ok (.aload_n 0, 1) := dk_42 (dk_at dksX4_moveCue_0 0 rfl rfl)
theorem dX4_moveCue_1 : decode cX4_moveCue 1 = .ok (.iconst 0, 1) := dk_3 (dk_at dksX4_moveCue_0 1 rfl rfl)
theorem dX4_moveCue_2 : decode cX4_moveCue 2 = .ok (.putfield 63, 3) := dk_181 0 63 (dk_at dksX4_moveCue_0 2 rfl rfl)
theorem dX4_moveCue_5 : decode cX4_moveCue 5 = .ok (.aload_n 0, 1) := dk_42 (dk_at dksX4_moveCue_0 5 rfl rfl)
theorem dX4_moveCue_6 : decode cX4_moveCue 6 = .ok (.iload_n 1, 1) := dk_27 (dk_at dksX4_moveCue_0 6 rfl rfl)
theorem dX4_moveCue_7 : decode cX4_moveCue 7 = .ok (.invokevirtual 229, 3) := dk_182 0 229 (dk_at dksX4_moveCue_0 7 rfl rfl)
theorem dX4_moveCue_10 : decode cX4_moveCue 10 = .ok (.ifCond .ne 9, 3) := dk_154 0 9 (dk_at dksX4_moveCue_0 10 rfl rfl)
theorem dX4_moveCue_13 : decode cX4_moveCue 13 = .ok (.aload_n 0, 1) := dk_42 (dk_at dksX4_moveCue_0 13 rfl rfl)
theorem dX4_moveCue_14 : decode cX4_moveCue 14 = .ok (.iconst 1, 1) := dk_4 (dk_at dksX4_moveCue_0 14 rfl rfl)
theorem dX4_moveCue_15 : decode cX4_moveCue 15 = .ok (.invokevirtual 98, 3) := dk_182 0 98 (dk_at dksX4_moveCue_0 15 rfl rfl)
theorem dX4_moveCue_18 : decode cX4_moveCue 18 = .ok (.ireturn, 1) := dk_172 (dk_at dksX4_moveCue_0 18 rfl rfl)
theorem dX4_moveCue_19 : decode cX4_moveCue 19 = .ok (.iload_n 2, 1) := dk_28 (dk_at dksX4_moveCue_0 19 rfl rfl)
theorem dX4_moveCue_20 : decode cX4_moveCue 20 = .ok (.iconst 0, 1) := dk_3 (dk_at dksX4_moveCue_0 20 rfl rfl)
theorem dX4_moveCue_21 : decode cX4_moveCue 21 = .ok (.sipush 999, 3) := dk_17 3 231 (dk_at dksX4_moveCue_0 21 rfl rfl)
theorem dX4_moveCue_24 : decode cX4_moveCue 24 = .ok (.aload_n 0, 1) := dk_42 (dk_at dksX4_moveCue_1 0 rfl rfl)
theorem dX4_moveCue_25 : decode cX4_moveCue 25 = .ok (.iload_n 1, 1) := dk_27 (dk_at dksX4_moveCue_1 1 rfl rfl)
theorem dX4_moveCue_26 : decode cX4_moveCue 26 = .ok (.iconst 1, 1) := dk_4 (dk_at dksX4_moveCue_1 2 rfl rfl)
theorem dX4_moveCue_27 : decode cX4_moveCue 27 = .ok (.invokevirtual 77, 3) := dk_182 0 77 (dk_at dksX4_moveCue_1 3 rfl rfl)
theorem dX4_moveCue_30 : decode cX4_moveCue 30 = .ok (.isub, 1) := dk_100 (dk_at dksX4_moveCue_1 6 rfl rfl)
theorem dX4_moveCue_31 : decode cX4_moveCue 31 = .ok (.invokestatic 84, 3) := dk_184 0 84 (dk_at dksX4_moveCue_1 7 rfl rfl)
theorem dX4_moveCue_34 : decode cX4_moveCue 34 = .ok (.ifCond .eq 13, 3) := dk_153 0 13 (dk_at dksX4_moveCue_1 10 rfl rfl)
theorem dX4_moveCue_37 : decode cX4_moveCue 37 = .ok (.aload_n 0, 1) := dk_42 (dk_at dksX4_moveCue_1 13 rfl rfl)
theorem dX4_moveCue_38 : decode cX4_moveCue 38 = .ok (.iload_n 1, 1) := dk_27 (dk_at dksX4_moveCue_1 14 rfl rfl)
theorem dX4_moveCue_39 : decode cX4_moveCue 39 = .ok (.iconst 0, 1) := dk_3 (dk_at dksX4_moveCue_1 15 rfl rfl)
theorem dX4_moveCue_40 : decode cX4_moveCue 40 = .ok (.iload_n 2, 1) := dk_28 (dk_at dksX4_moveCue_1 16 rfl rfl)
theorem dX4_moveCue_41 : decode cX4_moveCue 41 = .ok (.invokevirtual 375, 3) := dk_182 1 119 (dk_at dksX4_moveCue_1 17 rfl rfl)
theorem dX4_moveCue_44 : decode cX4_moveCue 44 = .ok (.goto 8, 3) := dk_167 0 8 (dk_at dksX4_moveCue_1 20 rfl rfl)
theorem dX4_moveCue_47 : decode cX4_moveCue 47 = .ok (.aload_n 0, 1) := dk_42 (dk_at dksX4_moveCue_1 23 rfl rfl)
theorem dX4_moveCue_48 : decode cX4_moveCue 48 = .ok (.iconst 2, 1) := dk_5 (dk_at dksX4_moveCue_2 0 rfl rfl)
theorem dX4_moveCue_49 : decode cX4_moveCue 49 = .ok (.invokevirtual 98, 3) := dk_182 0 98 (dk_at dksX4_moveCue_2 1 rfl rfl)
theorem dX4_moveCue_52 : decode cX4_moveCue 52 = .ok (.ireturn, 1) := dk_172 (dk_at dksX4_moveCue_2 4 rfl rfl)
abbrev cX4_change : ByteArray := prog_17_method_121_code
def yX4_change : MethodName := ⟨RX4, "change", "(III)I"⟩
def dkwX4_change_0 : List UInt8 := [42, 182, 1, 113, 42, 27, 28, 182, 0, 77, 54, 4, 42, 27, 28, 29, 182, 1, 97, 21, 4, 172]
abbrev dktX4_change_0 : List UInt8 := dkwX4_change_0 ++ []
theorem dksX4_change_0 : cX4_change.data.toList.drop 0 = dktX4_change_0 := by decide +kernel
theorem dX4_change_0 : decode cX4_change 0 = .ok (.aload_n 0, 1) := dk_42 (dk_at dksX4_change_0 0 rfl rfl)
theorem dX4_change_1 : decode cX4_change 1 = .ok (.invokevirtual 369, 3) := dk_182 1 113 (dk_at dksX4_change_0 1 rfl rfl)
theorem dX4_change_4 : decode cX4_change 4 = .ok (.aload_n 0, 1) := dk_42 (dk_at dksX4_change_0 4 rfl rfl)
theorem dX4_change_5 : decode cX4_change 5 = .ok (.iload_n 1, 1) := dk_27 (dk_at dksX4_change_0 5 rfl rfl)
theorem dX4_change_6 : decode cX4_change 6 = .ok (.iload_n 2, 1) := dk_28 (dk_at dksX4_change_0 6 rfl rfl)
theorem dX4_change_7 : decode cX4_change 7 = .ok (.invokevirtual 77, 3) := dk_182 0 77 (dk_at dksX4_change_0 7 rfl rfl)
theorem dX4_change_10 : decode cX4_change 10 = .ok (.istore 4, 2) := dk_54 4 (dk_at dksX4_change_0 10 rfl rfl)
theorem dX4_change_12 : decode cX4_change 12 = .ok (.aload_n 0, 1) := dk_42 (dk_at dksX4_change_0 12 rfl rfl)
theorem dX4_change_13 : decode cX4_change 13 = .ok (.iload_n 1, 1) := dk_27 (dk_at dksX4_change_0 13 rfl rfl)
theorem dX4_change_14 : decode cX4_change 14 = .ok (.iload_n 2, 1) := dk_28 (dk_at dksX4_change_0 14 rfl rfl)
theorem dX4_change_15 : decode cX4_change 15 = .ok (.iload_n 3, 1) := dk_29 (dk_at dksX4_change_0 15 rfl rfl)
theorem dX4_change_16 : decode cX4_change 16 = .ok (.invokevirtual 353, 3) := dk_182 1 97 (dk_at dksX4_change_0 16 rfl rfl)
theorem dX4_change_19 : decode cX4_change 19 = .ok (.iload 4, 2) := dk_21 4 (dk_at dksX4_change_0 19 rfl rfl)
theorem dX4_change_21 : decode cX4_change 21 = .ok (.ireturn, 1) := dk_172 (dk_at dksX4_change_0 21 rfl rfl)
abbrev cX4_setLength : ByteArray := prog_17_method_123_code
def yX4_setLength : MethodName := ⟨RX4, "setLength", "(II)I"⟩
def dkwX4_setLength_2 : List UInt8 := [5, 182, 0, 98, 172]
abbrev dktX4_setLength_2 : List UInt8 := dkwX4_setLength_2 ++ []
def dkwX4_setLength_1 : List UInt8 := [42, 27, 3, 182, 0, 77, 100, 184, 0, 84, 153, 0, 13, 42, 27, 4, 28, 182, 1, 119, 167, 0, 8, 42]
abbrev dktX4_setLength_1 : List UInt8 := dkwX4_setLength_1 ++ dktX4_setLength_2
def dkwX4_setLength_0 : List UInt8 := [42, 3, 181, 0, 63, 42, 27, 182, 0, 229, 154, 0, 9, 42, 4, 182, 0, 98, 172, 28, 4, 17, 3, 231]
abbrev dktX4_setLength_0 : List UInt8 := dkwX4_setLength_0 ++ dktX4_setLength_1
theorem dksX4_setLength_0 : cX4_setLength.data.toList.drop 0 = dktX4_setLength_0 := by decide +kernel
theorem dksX4_setLength_1 : cX4_setLength.data.toList.drop 24 = dktX4_setLength_1 := dk_seg dksX4_setLength_0 24 rfl rfl
theorem dksX4_setLength_2 : cX4_setLength.data.toList.drop 48 = dktX4_setLength_2 := dk_seg dksX4_setLength_1 24 rfl rfl
theorem dX4_setLength_0 : decode cX4_setLength 0 = .ok (.aload_n 0, 1) := dk_42 (dk_at dksX4_setLength_0 0 rfl rfl)
theorem dX4_setLength_1 : decode cX4_setLength 1 = .ok (.iconst 0, 1) := dk_3 (dk_at dksX4_setLength_0 1 rfl rfl)
theorem dX4_setLength_2 : decode cX4_setLength 2 = .ok (.putfield 63, 3) := dk_181 0 63 (dk_at dksX4_setLength_0 2 rfl rfl)
theorem dX4_setLength_5 : decode cX4_setLength 5 = .ok (.aload_n 0, 1) := dk_42 (dk_at dksX4_setLength_0 5 rfl rfl)
theorem dX4_setLength_6 : decode cX4_setLength 6 = .ok (.iload_n 1, 1) := dk_27 (dk_at dksX4_setLength_0 6 rfl rfl)
theorem dX4_setLength_7 : decode cX4_setLength 7 = .ok (.invokevirtual 229, 3) := dk_182 0 229 (dk_at dksX4_setLength_0 7 rfl rfl)
theorem dX4_setLength_10 : decode cX4_setLength 10 = .ok (.ifCond .ne 9, 3) := dk_154 0 9 (dk_at dksX4_setLength_0 10 rfl rfl)
theorem dX4_setLength_13 : decode cX4_setLength 13 = .ok (.aload_n 0, 1) := dk_42 (dk_at dksX4_setLength_0 13 rfl rfl)
theorem dX4_setLength_14 : decode cX4_setLength 14 = .ok (.iconst 1, 1) := dk_4 (dk_at dksX4_setLength_0 14 rfl rfl)
theorem dX4_setLength_15 : decode cX4_setLength 15 = .ok (.invokevirtual 98, 3) := dk_182 0 98 (dk_at dksX4_setLength_0 15 rfl rfl)
theorem dX4_setLength_18 : decode cX4_setLength 18 = .ok (.ireturn, 1) := dk_172 (dk_at dksX4_setLength_0 18 rfl rfl)
theorem dX4_setLength_19 : decode cX4_setLength 19 = .ok (.iload_n 2, 1) := dk_28 (dk_at dksX4_setLength_0 19 rfl rfl)
theorem dX4_setLength_20 : decode cX4_setLength 20 = .ok (.iconst 1, 1) := dk_4 (dk_at dksX4_setLength_0 20 rfl rfl)
theorem dX4_setLength_21 : decode cX4_setLength 21 = .ok (.sipush 999, 3) := dk_17 3 231 (dk_at dksX4_setLength_0 21 rfl rfl)
theorem dX4_setLength_24 : decode cX4_setLength 24 = .ok (.aload_n 0, 1) := dk_42 (dk_at dksX4_setLength_1 0 rfl rfl)
theorem dX4_setLength_25 : decode cX4_setLength 25 = .ok (.iload_n 1, 1) := dk_27 (dk_at dksX4_setLength_1 1 rfl rfl)
theorem dX4_setLength_26 : decode cX4_setLength 26 = .ok (.iconst 0, 1) := dk_3 (dk_at dksX4_setLength_1 2 rfl rfl)
theorem dX4_setLength_27 : decode cX4_setLength 27 = .ok (.invokevirtual 77, 3) := dk_182 0 77 (dk_at dksX4_setLength_1 3 rfl rfl)
theorem dX4_setLength_30 : decode cX4_setLength 30 = .ok (.isub, 1) := dk_100 (dk_at dksX4_setLength_1 6 rfl rfl)
theorem dX4_setLength_31 : decode cX4_setLength 31 = .ok (.invokestatic 84, 3) := dk_184 0 84 (dk_at dksX4_setLength_1 7 rfl rfl)
theorem dX4_setLength_34 : decode cX4_setLength 34 = .ok (.ifCond .eq 13, 3) := dk_153 0 13 (dk_at dksX4_setLength_1 10 rfl rfl)
theorem dX4_setLength_37 : decode cX4_setLength 37 = .ok (.aload_n 0, 1) := dk_42 (dk_at dksX4_setLength_1 13 rfl rfl)
theorem dX4_setLength_38 : decode cX4_setLength 38 = .ok (.iload_n 1, 1) := dk_27 (dk_at dksX4_setLength_1 14 rfl rfl)
theorem dX4_setLength_39 : decode cX4_setLength 39 = .ok (.iconst 1, 1) := dk_4 (dk_at dksX4_setLength_1 15 rfl rfl)
theorem dX4_setLength_40 : decode cX4_setLength 40 = .ok (.iload_n 2, 1) := dk_28 (dk_at dksX4_setLength_1 16 rfl rfl)
theorem dX4_setLength_41 : decode cX4_setLength 41 = .ok (.invokevirtual 375, 3) := dk_182 1 119 (dk_at dksX4_setLength_1 17 rfl rfl)
theorem dX4_setLength_44 : decode cX4_setLength 44 = .ok (.goto 8, 3) := dk_167 0 8 (dk_at dksX4_setLength_1 20 rfl rfl)
theorem dX4_setLength_47 : decode cX4_setLength 47 = .ok (.aload_n 0, 1) := dk_42 (dk_at dksX4_setLength_1 23 rfl rfl)
theorem dX4_setLength_48 : decode cX4_setLength 48 = .ok (.iconst 2, 1) := dk_5 (dk_at dksX4_setLength_2 0 rfl rfl)
theorem dX4_setLength_49 : decode cX4_setLength 49 = .ok (.invokevirtual 98, 3) := dk_182 0 98 (dk_at dksX4_setLength_2 1 rfl rfl)
theorem dX4_setLength_52 : decode cX4_setLength 52 = .ok (.ireturn, 1) := dk_172 (dk_at dksX4_setLength_2 4 rfl rfl)
abbrev cX4_fit : ByteArray := prog_17_method_124_code
def yX4_fit : MethodName := ⟨RX4, "fit", "(I)I"⟩
def dkwX4_fit_2 : List UInt8 := [28, 182, 1, 119, 62, 28, 172]
abbrev dktX4_fit_2 : List UInt8 := dkwX4_fit_2 ++ []
def dkwX4_fit_1 : List UInt8 := [61, 28, 17, 3, 231, 42, 27, 3, 182, 0, 77, 100, 164, 0, 9, 42, 5, 182, 0, 98, 172, 42, 27, 4]
abbrev dktX4_fit_1 : List UInt8 := dkwX4_fit_1 ++ dktX4_fit_2
def dkwX4_fit_0 : List UInt8 := [42, 3, 181, 0, 63, 42, 27, 182, 0, 229, 154, 0, 9, 42, 4, 182, 0, 98, 172, 42, 27, 182, 1, 33]
abbrev dktX4_fit_0 : List UInt8 := dkwX4_fit_0 ++ dktX4_fit_1
theorem dksX4_fit_0 : cX4_fit.data.toList.drop 0 = dktX4_fit_0 := by decide +kernel
theorem dksX4_fit_1 : cX4_fit.data.toList.drop 24 = dktX4_fit_1 := dk_seg dksX4_fit_0 24 rfl rfl
theorem dksX4_fit_2 : cX4_fit.data.toList.drop 48 = dktX4_fit_2 := dk_seg dksX4_fit_1 24 rfl rfl
theorem dX4_fit_0 : decode cX4_fit 0 = .ok (.aload_n 0, 1) := dk_42 (dk_at dksX4_fit_0 0 rfl rfl)
theorem dX4_fit_1 : decode cX4_fit 1 = .ok (.iconst 0, 1) := dk_3 (dk_at dksX4_fit_0 1 rfl rfl)
theorem dX4_fit_2 : decode cX4_fit 2 = .ok (.putfield 63, 3) := dk_181 0 63 (dk_at dksX4_fit_0 2 rfl rfl)
theorem dX4_fit_5 : decode cX4_fit 5 = .ok (.aload_n 0, 1) := dk_42 (dk_at dksX4_fit_0 5 rfl rfl)
theorem dX4_fit_6 : decode cX4_fit 6 = .ok (.iload_n 1, 1) := dk_27 (dk_at dksX4_fit_0 6 rfl rfl)
theorem dX4_fit_7 : decode cX4_fit 7 = .ok (.invokevirtual 229, 3) := dk_182 0 229 (dk_at dksX4_fit_0 7 rfl rfl)
theorem dX4_fit_10 : decode cX4_fit 10 = .ok (.ifCond .ne 9, 3) := dk_154 0 9 (dk_at dksX4_fit_0 10 rfl rfl)
theorem dX4_fit_13 : decode cX4_fit 13 = .ok (.aload_n 0, 1) := dk_42 (dk_at dksX4_fit_0 13 rfl rfl)
theorem dX4_fit_14 : decode cX4_fit 14 = .ok (.iconst 1, 1) := dk_4 (dk_at dksX4_fit_0 14 rfl rfl)
theorem dX4_fit_15 : decode cX4_fit 15 = .ok (.invokevirtual 98, 3) := dk_182 0 98 (dk_at dksX4_fit_0 15 rfl rfl)
theorem dX4_fit_18 : decode cX4_fit 18 = .ok (.ireturn, 1) := dk_172 (dk_at dksX4_fit_0 18 rfl rfl)
theorem dX4_fit_19 : decode cX4_fit 19 = .ok (.aload_n 0, 1) := dk_42 (dk_at dksX4_fit_0 19 rfl rfl)
theorem dX4_fit_20 : decode cX4_fit 20 = .ok (.iload_n 1, 1) := dk_27 (dk_at dksX4_fit_0 20 rfl rfl)
theorem dX4_fit_21 : decode cX4_fit 21 = .ok (.invokevirtual 289, 3) := dk_182 1 33 (dk_at dksX4_fit_0 21 rfl rfl)
theorem dX4_fit_24 : decode cX4_fit 24 = .ok (.istore_n 2, 1) := dk_61 (dk_at dksX4_fit_1 0 rfl rfl)
theorem dX4_fit_25 : decode cX4_fit 25 = .ok (.iload_n 2, 1) := dk_28 (dk_at dksX4_fit_1 1 rfl rfl)
theorem dX4_fit_26 : decode cX4_fit 26 = .ok (.sipush 999, 3) := dk_17 3 231 (dk_at dksX4_fit_1 2 rfl rfl)
theorem dX4_fit_29 : decode cX4_fit 29 = .ok (.aload_n 0, 1) := dk_42 (dk_at dksX4_fit_1 5 rfl rfl)
theorem dX4_fit_30 : decode cX4_fit 30 = .ok (.iload_n 1, 1) := dk_27 (dk_at dksX4_fit_1 6 rfl rfl)
theorem dX4_fit_31 : decode cX4_fit 31 = .ok (.iconst 0, 1) := dk_3 (dk_at dksX4_fit_1 7 rfl rfl)
theorem dX4_fit_32 : decode cX4_fit 32 = .ok (.invokevirtual 77, 3) := dk_182 0 77 (dk_at dksX4_fit_1 8 rfl rfl)
theorem dX4_fit_35 : decode cX4_fit 35 = .ok (.isub, 1) := dk_100 (dk_at dksX4_fit_1 11 rfl rfl)
theorem dX4_fit_36 : decode cX4_fit 36 = .ok (.if_icmp .le 9, 3) := dk_164 0 9 (dk_at dksX4_fit_1 12 rfl rfl)
theorem dX4_fit_39 : decode cX4_fit 39 = .ok (.aload_n 0, 1) := dk_42 (dk_at dksX4_fit_1 15 rfl rfl)
theorem dX4_fit_40 : decode cX4_fit 40 = .ok (.iconst 2, 1) := dk_5 (dk_at dksX4_fit_1 16 rfl rfl)
theorem dX4_fit_41 : decode cX4_fit 41 = .ok (.invokevirtual 98, 3) := dk_182 0 98 (dk_at dksX4_fit_1 17 rfl rfl)
theorem dX4_fit_44 : decode cX4_fit 44 = .ok (.ireturn, 1) := dk_172 (dk_at dksX4_fit_1 20 rfl rfl)
theorem dX4_fit_45 : decode cX4_fit 45 = .ok (.aload_n 0, 1) := dk_42 (dk_at dksX4_fit_1 21 rfl rfl)
theorem dX4_fit_46 : decode cX4_fit 46 = .ok (.iload_n 1, 1) := dk_27 (dk_at dksX4_fit_1 22 rfl rfl)
theorem dX4_fit_47 : decode cX4_fit 47 = .ok (.iconst 1, 1) := dk_4 (dk_at dksX4_fit_1 23 rfl rfl)
theorem dX4_fit_48 : decode cX4_fit 48 = .ok (.iload_n 2, 1) := dk_28 (dk_at dksX4_fit_2 0 rfl rfl)
theorem dX4_fit_49 : decode cX4_fit 49 = .ok (.invokevirtual 375, 3) := dk_182 1 119 (dk_at dksX4_fit_2 1 rfl rfl)
theorem dX4_fit_52 : decode cX4_fit 52 = .ok (.istore_n 3, 1) := dk_62 (dk_at dksX4_fit_2 4 rfl rfl)
theorem dX4_fit_53 : decode cX4_fit 53 = .ok (.iload_n 2, 1) := dk_28 (dk_at dksX4_fit_2 5 rfl rfl)
theorem dX4_fit_54 : decode cX4_fit 54 = .ok (.ireturn, 1) := dk_172 (dk_at dksX4_fit_2 6 rfl rfl)
abbrev cX4_setLimits : ByteArray := prog_17_method_125_code
def yX4_setLimits : MethodName := ⟨RX4, "setLimits", "(III)I"⟩
def dkwX4_setLimits_3 : List UInt8 := [172]
abbrev dktX4_setLimits_3 : List UInt8 := dkwX4_setLimits_3 ++ []
def dkwX4_setLimits_2 : List UInt8 := [182, 1, 113, 42, 3, 27, 96, 28, 182, 0, 73, 42, 7, 27, 96, 29, 182, 0, 73, 42, 3, 182, 1, 30]
abbrev dktX4_setLimits_2 : List UInt8 := dkwX4_setLimits_2 ++ dktX4_setLimits_3
def dkwX4_setLimits_1 : List UInt8 := [184, 0, 84, 153, 0, 13, 29, 4, 16, 20, 184, 0, 84, 154, 0, 9, 42, 5, 182, 0, 98, 172, 42]
abbrev dktX4_setLimits_1 : List UInt8 := dkwX4_setLimits_1 ++ dktX4_setLimits_2
def dkwX4_setLimits_0 : List UInt8 := [42, 3, 181, 0, 63, 42, 27, 182, 0, 220, 154, 0, 9, 42, 4, 182, 0, 98, 172, 28, 4, 16, 99]
abbrev dktX4_setLimits_0 : List UInt8 := dkwX4_setLimits_0 ++ dktX4_setLimits_1
theorem dksX4_setLimits_0 : cX4_setLimits.data.toList.drop 0 = dktX4_setLimits_0 := by decide +kernel
theorem dksX4_setLimits_1 : cX4_setLimits.data.toList.drop 23 = dktX4_setLimits_1 := dk_seg dksX4_setLimits_0 23 rfl rfl
theorem dksX4_setLimits_2 : cX4_setLimits.data.toList.drop 46 = dktX4_setLimits_2 := dk_seg dksX4_setLimits_1 23 rfl rfl
theorem dksX4_setLimits_3 : cX4_setLimits.data.toList.drop 70 = dktX4_setLimits_3 := dk_seg dksX4_setLimits_2 24 rfl rfl
theorem dX4_setLimits_0 : decode cX4_setLimits 0 = .ok (.aload_n 0, 1) := dk_42 (dk_at dksX4_setLimits_0 0 rfl rfl)
theorem dX4_setLimits_1 : decode cX4_setLimits 1 = .ok (.iconst 0, 1) := dk_3 (dk_at dksX4_setLimits_0 1 rfl rfl)
theorem dX4_setLimits_2 : decode cX4_setLimits 2 = .ok (.putfield 63, 3) := dk_181 0 63 (dk_at dksX4_setLimits_0 2 rfl rfl)
theorem dX4_setLimits_5 : decode cX4_setLimits 5 = .ok (.aload_n 0, 1) := dk_42 (dk_at dksX4_setLimits_0 5 rfl rfl)
theorem dX4_setLimits_6 : decode cX4_setLimits 6 = .ok (.iload_n 1, 1) := dk_27 (dk_at dksX4_setLimits_0 6 rfl rfl)
theorem dX4_setLimits_7 : decode cX4_setLimits 7 = .ok (.invokevirtual 220, 3) := dk_182 0 220 (dk_at dksX4_setLimits_0 7 rfl rfl)
theorem dX4_setLimits_10 : decode cX4_setLimits 10 = .ok (.ifCond .ne 9, 3) := dk_154 0 9 (dk_at dksX4_setLimits_0 10 rfl rfl)
theorem dX4_setLimits_13 : decode cX4_setLimits 13 = .ok (.aload_n 0, 1) := dk_42 (dk_at dksX4_setLimits_0 13 rfl rfl)
theorem dX4_setLimits_14 : decode cX4_setLimits 14 = .ok (.iconst 1, 1) := dk_4 (dk_at dksX4_setLimits_0 14 rfl rfl)
theorem dX4_setLimits_15 : decode cX4_setLimits 15 = .ok (.invokevirtual 98, 3) := dk_182 0 98 (dk_at dksX4_setLimits_0 15 rfl rfl)
theorem dX4_setLimits_18 : decode cX4_setLimits 18 = .ok (.ireturn, 1) := dk_172 (dk_at dksX4_setLimits_0 18 rfl rfl)
theorem dX4_setLimits_19 : decode cX4_setLimits 19 = .ok (.iload_n 2, 1) := dk_28 (dk_at dksX4_setLimits_0 19 rfl rfl)
theorem dX4_setLimits_20 : decode cX4_setLimits 20 = .ok (.iconst 1, 1) := dk_4 (dk_at dksX4_setLimits_0 20 rfl rfl)
theorem dX4_setLimits_21 : decode cX4_setLimits 21 = .ok (.bipush 99, 2) := dk_16 99 (dk_at dksX4_setLimits_0 21 rfl rfl)
theorem dX4_setLimits_23 : decode cX4_setLimits 23 = .ok (.invokestatic 84, 3) := dk_184 0 84 (dk_at dksX4_setLimits_1 0 rfl rfl)
theorem dX4_setLimits_26 : decode cX4_setLimits 26 = .ok (.ifCond .eq 13, 3) := dk_153 0 13 (dk_at dksX4_setLimits_1 3 rfl rfl)
theorem dX4_setLimits_29 : decode cX4_setLimits 29 = .ok (.iload_n 3, 1) := dk_29 (dk_at dksX4_setLimits_1 6 rfl rfl)
theorem dX4_setLimits_30 : decode cX4_setLimits 30 = .ok (.iconst 1, 1) := dk_4 (dk_at dksX4_setLimits_1 7 rfl rfl)
theorem dX4_setLimits_31 : decode cX4_setLimits 31 = .ok (.bipush 20, 2) := dk_16 20 (dk_at dksX4_setLimits_1 8 rfl rfl)
theorem dX4_setLimits_33 : decode cX4_setLimits 33 = .ok (.invokestatic 84, 3) := dk_184 0 84 (dk_at dksX4_setLimits_1 10 rfl rfl)
theorem dX4_setLimits_36 : decode cX4_setLimits 36 = .ok (.ifCond .ne 9, 3) := dk_154 0 9 (dk_at dksX4_setLimits_1 13 rfl rfl)
theorem dX4_setLimits_39 : decode cX4_setLimits 39 = .ok (.aload_n 0, 1) := dk_42 (dk_at dksX4_setLimits_1 16 rfl rfl)
theorem dX4_setLimits_40 : decode cX4_setLimits 40 = .ok (.iconst 2, 1) := dk_5 (dk_at dksX4_setLimits_1 17 rfl rfl)
theorem dX4_setLimits_41 : decode cX4_setLimits 41 = .ok (.invokevirtual 98, 3) := dk_182 0 98 (dk_at dksX4_setLimits_1 18 rfl rfl)
theorem dX4_setLimits_44 : decode cX4_setLimits 44 = .ok (.ireturn, 1) := dk_172 (dk_at dksX4_setLimits_1 21 rfl rfl)
theorem dX4_setLimits_45 : decode cX4_setLimits 45 = .ok (.aload_n 0, 1) := dk_42 (dk_at dksX4_setLimits_1 22 rfl rfl)
theorem dX4_setLimits_46 : decode cX4_setLimits 46 = .ok (.invokevirtual 369, 3) := dk_182 1 113 (dk_at dksX4_setLimits_2 0 rfl rfl)
theorem dX4_setLimits_49 : decode cX4_setLimits 49 = .ok (.aload_n 0, 1) := dk_42 (dk_at dksX4_setLimits_2 3 rfl rfl)
theorem dX4_setLimits_50 : decode cX4_setLimits 50 = .ok (.iconst 0, 1) := dk_3 (dk_at dksX4_setLimits_2 4 rfl rfl)
theorem dX4_setLimits_51 : decode cX4_setLimits 51 = .ok (.iload_n 1, 1) := dk_27 (dk_at dksX4_setLimits_2 5 rfl rfl)
theorem dX4_setLimits_52 : decode cX4_setLimits 52 = .ok (.iadd, 1) := dk_96 (dk_at dksX4_setLimits_2 6 rfl rfl)
theorem dX4_setLimits_53 : decode cX4_setLimits 53 = .ok (.iload_n 2, 1) := dk_28 (dk_at dksX4_setLimits_2 7 rfl rfl)
theorem dX4_setLimits_54 : decode cX4_setLimits 54 = .ok (.invokevirtual 73, 3) := dk_182 0 73 (dk_at dksX4_setLimits_2 8 rfl rfl)
theorem dX4_setLimits_57 : decode cX4_setLimits 57 = .ok (.aload_n 0, 1) := dk_42 (dk_at dksX4_setLimits_2 11 rfl rfl)
theorem dX4_setLimits_58 : decode cX4_setLimits 58 = .ok (.iconst 4, 1) := dk_7 (dk_at dksX4_setLimits_2 12 rfl rfl)
theorem dX4_setLimits_59 : decode cX4_setLimits 59 = .ok (.iload_n 1, 1) := dk_27 (dk_at dksX4_setLimits_2 13 rfl rfl)
theorem dX4_setLimits_60 : decode cX4_setLimits 60 = .ok (.iadd, 1) := dk_96 (dk_at dksX4_setLimits_2 14 rfl rfl)
theorem dX4_setLimits_61 : decode cX4_setLimits 61 = .ok (.iload_n 3, 1) := dk_29 (dk_at dksX4_setLimits_2 15 rfl rfl)
theorem dX4_setLimits_62 : decode cX4_setLimits 62 = .ok (.invokevirtual 73, 3) := dk_182 0 73 (dk_at dksX4_setLimits_2 16 rfl rfl)
theorem dX4_setLimits_65 : decode cX4_setLimits 65 = .ok (.aload_n 0, 1) := dk_42 (dk_at dksX4_setLimits_2 19 rfl rfl)
theorem dX4_setLimits_66 : decode cX4_setLimits 66 = .ok (.iconst 0, 1) := dk_3 (dk_at dksX4_setLimits_2 20 rfl rfl)
theorem dX4_setLimits_67 : decode cX4_setLimits 67 = .ok (.invokevirtual 286, 3) := dk_182 1 30 (dk_at dksX4_setLimits_2 21 rfl rfl)
theorem dX4_setLimits_70 : decode cX4_setLimits 70 = .ok (.ireturn, 1) := dk_172 (dk_at dksX4_setLimits_3 0 rfl rfl)
abbrev cX4_addWall : ByteArray := prog_17_method_126_code
def yX4_addWall : MethodName := ⟨RX4, "addWall", "(IIIIII)I"⟩
def dkwX4_addWall_8 : List UInt8 := [17, 0, 149, 21, 7, 4, 96, 182, 0, 73, 21, 7, 172]
abbrev dktX4_addWall_8 : List UInt8 := dkwX4_addWall_8 ++ []
def dkwX4_addWall_7 : List UInt8 := [182, 0, 73, 42, 21, 8, 7, 96, 21, 5, 182, 0, 73, 42, 21, 8, 8, 96, 21, 6, 182, 0, 73, 42]
abbrev dktX4_addWall_7 : List UInt8 := dkwX4_addWall_7 ++ dktX4_addWall_8
def dkwX4_addWall_6 : List UInt8 := [4, 96, 28, 182, 0, 73, 42, 21, 8, 5, 96, 29, 182, 0, 73, 42, 21, 8, 6, 96, 21, 4]
abbrev dktX4_addWall_6 : List UInt8 := dkwX4_addWall_6 ++ dktX4_addWall_7
def dkwX4_addWall_5 : List UInt8 := [182, 1, 113, 17, 0, 150, 16, 6, 21, 7, 104, 96, 54, 8, 42, 21, 8, 27, 182, 0, 73, 42, 21, 8]
abbrev dktX4_addWall_5 : List UInt8 := dkwX4_addWall_5 ++ dktX4_addWall_6
def dkwX4_addWall_4 : List UInt8 := [172, 42, 17, 0, 149, 182, 0, 69, 54, 7, 21, 7, 16, 6, 160, 0, 9, 42, 6, 182, 0, 98, 172, 42]
abbrev dktX4_addWall_4 : List UInt8 := dkwX4_addWall_4 ++ dktX4_addWall_5
def dkwX4_addWall_3 : List UInt8 := [184, 0, 84, 153, 0, 16, 21, 6, 21, 5, 17, 39, 15, 184, 0, 84, 154, 0, 9, 42, 5, 182, 0, 98]
abbrev dktX4_addWall_3 : List UInt8 := dkwX4_addWall_3 ++ dktX4_addWall_4
def dkwX4_addWall_2 : List UInt8 := [28, 17, 39, 15, 184, 0, 84, 154, 0, 9, 42, 5, 182, 0, 98, 172, 21, 5, 17, 216, 241, 17, 39, 15]
abbrev dktX4_addWall_2 : List UInt8 := dkwX4_addWall_2 ++ dktX4_addWall_3
def dkwX4_addWall_1 : List UInt8 := [182, 0, 98, 172, 27, 21, 4, 159, 0, 27, 28, 17, 216, 241, 17, 39, 15, 184, 0, 84, 153, 0, 14, 29]
abbrev dktX4_addWall_1 : List UInt8 := dkwX4_addWall_1 ++ dktX4_addWall_2
def dkwX4_addWall_0 : List UInt8 := [42, 3, 181, 0, 63, 42, 27, 182, 0, 220, 153, 0, 12, 42, 21, 4, 182, 0, 220, 154, 0, 9, 42, 4]
abbrev dktX4_addWall_0 : List UInt8 := dkwX4_addWall_0 ++ dktX4_addWall_1
theorem dksX4_addWall_0 : cX4_addWall.data.toList.drop 0 = dktX4_addWall_0 := by decide +kernel
theorem dksX4_addWall_1 : cX4_addWall.data.toList.drop 24 = dktX4_addWall_1 := dk_seg dksX4_addWall_0 24 rfl rfl
theorem dksX4_addWall_2 : cX4_addWall.data.toList.drop 48 = dktX4_addWall_2 := dk_seg dksX4_addWall_1 24 rfl rfl
theorem dksX4_addWall_3 : cX4_addWall.data.toList.drop 72 = dktX4_addWall_3 := dk_seg dksX4_addWall_2 24 rfl rfl
theorem dksX4_addWall_4 : cX4_addWall.data.toList.drop 96 = dktX4_addWall_4 := dk_seg dksX4_addWall_3 24 rfl rfl
theorem dksX4_addWall_5 : cX4_addWall.data.toList.drop 120 = dktX4_addWall_5 := dk_seg dksX4_addWall_4 24 rfl rfl
theorem dksX4_addWall_6 : cX4_addWall.data.toList.drop 144 = dktX4_addWall_6 := dk_seg dksX4_addWall_5 24 rfl rfl
theorem dksX4_addWall_7 : cX4_addWall.data.toList.drop 166 = dktX4_addWall_7 := dk_seg dksX4_addWall_6 22 rfl rfl
theorem dksX4_addWall_8 : cX4_addWall.data.toList.drop 190 = dktX4_addWall_8 := dk_seg dksX4_addWall_7 24 rfl rfl
theorem dX4_addWall_0 : decode cX4_addWall 0 = .ok (.aload_n 0, 1) := dk_42 (dk_at dksX4_addWall_0 0 rfl rfl)
theorem dX4_addWall_1 : decode cX4_addWall 1 = .ok (.iconst 0, 1) := dk_3 (dk_at dksX4_addWall_0 1 rfl rfl)
theorem dX4_addWall_2 : decode cX4_addWall 2 = .ok (.putfield 63, 3) := dk_181 0 63 (dk_at dksX4_addWall_0 2 rfl rfl)
theorem dX4_addWall_5 : decode cX4_addWall 5 = .ok (.aload_n 0, 1) := dk_42 (dk_at dksX4_addWall_0 5 rfl rfl)
theorem dX4_addWall_6 : decode cX4_addWall 6 = .ok (.iload_n 1, 1) := dk_27 (dk_at dksX4_addWall_0 6 rfl rfl)
theorem dX4_addWall_7 : decode cX4_addWall 7 = .ok (.invokevirtual 220, 3) := dk_182 0 220 (dk_at dksX4_addWall_0 7 rfl rfl)
theorem dX4_addWall_10 : decode cX4_addWall 10 = .ok (.ifCond .eq 12, 3) := dk_153 0 12 (dk_at dksX4_addWall_0 10 rfl rfl)
theorem dX4_addWall_13 : decode cX4_addWall 13 = .ok (.aload_n 0, 1) := dk_42 (dk_at dksX4_addWall_0 13 rfl rfl)
theorem dX4_addWall_14 : decode cX4_addWall 14 = .ok (.iload 4, 2) := dk_21 4 (dk_at dksX4_addWall_0 14 rfl rfl)
theorem dX4_addWall_16 : decode cX4_addWall 16 = .ok (.invokevirtual 220, 3) := dk_182 0 220 (dk_at dksX4_addWall_0 16 rfl rfl)
theorem dX4_addWall_19 : decode cX4_addWall 19 = .ok (.ifCond .ne 9, 3) := dk_154 0 9 (dk_at dksX4_addWall_0 19 rfl rfl)
theorem dX4_addWall_22 : decode cX4_addWall 22 = .ok (.aload_n 0, 1) := dk_42 (dk_at dksX4_addWall_0 22 rfl rfl)
theorem dX4_addWall_23 : decode cX4_addWall 23 = .ok (.iconst 1, 1) := dk_4 (dk_at dksX4_addWall_0 23 rfl rfl)
theorem dX4_addWall_24 : decode cX4_addWall 24 = .ok (.invokevirtual 98, 3) := dk_182 0 98 (dk_at dksX4_addWall_1 0 rfl rfl)
theorem dX4_addWall_27 : decode cX4_addWall 27 = .ok (.ireturn, 1) := dk_172 (dk_at dksX4_addWall_1 3 rfl rfl)
theorem dX4_addWall_28 : decode cX4_addWall 28 = .ok (.iload_n 1, 1) := dk_27 (dk_at dksX4_addWall_1 4 rfl rfl)
theorem dX4_addWall_29 : decode cX4_addWall 29 = .ok (.iload 4, 2) := dk_21 4 (dk_at dksX4_addWall_1 5 rfl rfl)
theorem dX4_addWall_31 : decode cX4_addWall 31 = .ok (.if_icmp .eq 27, 3) := dk_159 0 27 (dk_at dksX4_addWall_1 7 rfl rfl)
theorem dX4_addWall_34 : decode cX4_addWall 34 = .ok (.iload_n 2, 1) := dk_28 (dk_at dksX4_addWall_1 10 rfl rfl)
theorem dX4_addWall_35 : decode cX4_addWall 35 = .ok (.sipush (-9999), 3) := dk_17 216 241 (dk_at dksX4_addWall_1 11 rfl rfl)
theorem dX4_addWall_38 : decode cX4_addWall 38 = .ok (.sipush 9999, 3) := dk_17 39 15 (dk_at dksX4_addWall_1 14 rfl rfl)
theorem dX4_addWall_41 : decode cX4_addWall 41 = .ok (.invokestatic 84, 3) := dk_184 0 84 (dk_at dksX4_addWall_1 17 rfl rfl)
theorem dX4_addWall_44 : decode cX4_addWall 44 = .ok (.ifCond .eq 14, 3) := dk_153 0 14 (dk_at dksX4_addWall_1 20 rfl rfl)
theorem dX4_addWall_47 : decode cX4_addWall 47 = .ok (.iload_n 3, 1) := dk_29 (dk_at dksX4_addWall_1 23 rfl rfl)
theorem dX4_addWall_48 : decode cX4_addWall 48 = .ok (.iload_n 2, 1) := dk_28 (dk_at dksX4_addWall_2 0 rfl rfl)
theorem dX4_addWall_49 : decode cX4_addWall 49 = .ok (.sipush 9999, 3) := dk_17 39 15 (dk_at dksX4_addWall_2 1 rfl rfl)
theorem dX4_addWall_52 : decode cX4_addWall 52 = .ok (.invokestatic 84, 3) := dk_184 0 84 (dk_at dksX4_addWall_2 4 rfl rfl)
theorem dX4_addWall_55 : decode cX4_addWall 55 = .ok (.ifCond .ne 9, 3) := dk_154 0 9 (dk_at dksX4_addWall_2 7 rfl rfl)
theorem dX4_addWall_58 : decode cX4_addWall 58 = .ok (.aload_n 0, 1) := dk_42 (dk_at dksX4_addWall_2 10 rfl rfl)
theorem dX4_addWall_59 : decode cX4_addWall 59 = .ok (.iconst 2, 1) := dk_5 (dk_at dksX4_addWall_2 11 rfl rfl)
theorem dX4_addWall_60 : decode cX4_addWall 60 = .ok (.invokevirtual 98, 3) := dk_182 0 98 (dk_at dksX4_addWall_2 12 rfl rfl)
theorem dX4_addWall_63 : decode cX4_addWall 63 = .ok (.ireturn, 1) := dk_172 (dk_at dksX4_addWall_2 15 rfl rfl)
theorem dX4_addWall_64 : decode cX4_addWall 64 = .ok (.iload 5, 2) := dk_21 5 (dk_at dksX4_addWall_2 16 rfl rfl)
theorem dX4_addWall_66 : decode cX4_addWall 66 = .ok (.sipush (-9999), 3) := dk_17 216 241 (dk_at dksX4_addWall_2 18 rfl rfl)
theorem dX4_addWall_69 : decode cX4_addWall 69 = .ok (.sipush 9999, 3) := dk_17 39 15 (dk_at dksX4_addWall_2 21 rfl rfl)
theorem dX4_addWall_72 : decode cX4_addWall 72 = .ok (.invokestatic 84, 3) := dk_184 0 84 (dk_at dksX4_addWall_3 0 rfl rfl)
theorem dX4_addWall_75 : decode cX4_addWall 75 = .ok (.ifCond .eq 16, 3) := dk_153 0 16 (dk_at dksX4_addWall_3 3 rfl rfl)
theorem dX4_addWall_78 : decode cX4_addWall 78 = .ok (.iload 6, 2) := dk_21 6 (dk_at dksX4_addWall_3 6 rfl rfl)
theorem dX4_addWall_80 : decode cX4_addWall 80 = .ok (.iload 5, 2) := dk_21 5 (dk_at dksX4_addWall_3 8 rfl rfl)
theorem dX4_addWall_82 : decode cX4_addWall 82 = .ok (.sipush 9999, 3) := dk_17 39 15 (dk_at dksX4_addWall_3 10 rfl rfl)
theorem dX4_addWall_85 : decode cX4_addWall 85 = .ok (.invokestatic 84, 3) := dk_184 0 84 (dk_at dksX4_addWall_3 13 rfl rfl)
theorem dX4_addWall_88 : decode cX4_addWall 88 = .ok (.ifCond .ne 9, 3) := dk_154 0 9 (dk_at dksX4_addWall_3 16 rfl rfl)
theorem dX4_addWall_91 : decode cX4_addWall 91 = .ok (.aload_n 0, 1) := dk_42 (dk_at dksX4_addWall_3 19 rfl rfl)
theorem dX4_addWall_92 : decode cX4_addWall 92 = .ok (.iconst 2, 1) := dk_5 (dk_at dksX4_addWall_3 20 rfl rfl)
theorem dX4_addWall_93 : decode cX4_addWall 93 = .ok (.invokevirtual 98, 3) := dk_182 0 98 (dk_at dksX4_addWall_3 21 rfl rfl)
theorem dX4_addWall_96 : decode cX4_addWall 96 = .ok (.ireturn, 1) := dk_172 (dk_at dksX4_addWall_4 0 rfl rfl)
theorem dX4_addWall_97 : decode cX4_addWall 97 = .ok (.aload_n 0, 1) := dk_42 (dk_at dksX4_addWall_4 1 rfl rfl)
theorem dX4_addWall_98 : decode cX4_addWall 98 = .ok (.sipush 149, 3) := dk_17 0 149 (dk_at dksX4_addWall_4 2 rfl rfl)
theorem dX4_addWall_101 : decode cX4_addWall 101 = .ok (.invokevirtual 69, 3) := dk_182 0 69 (dk_at dksX4_addWall_4 5 rfl rfl)
theorem dX4_addWall_104 : decode cX4_addWall 104 = .ok (.istore 7, 2) := dk_54 7 (dk_at dksX4_addWall_4 8 rfl rfl)
theorem dX4_addWall_106 : decode cX4_addWall 106 = .ok (.iload 7, 2) := dk_21 7 (dk_at dksX4_addWall_4 10 rfl rfl)
theorem dX4_addWall_108 : decode cX4_addWall 108 = .ok (.bipush 6, 2) := dk_16 6 (dk_at dksX4_addWall_4 12 rfl rfl)
theorem dX4_addWall_110 : decode cX4_addWall 110 = .ok (.if_icmp .ne 9, 3) := dk_160 0 9 (dk_at dksX4_addWall_4 14 rfl rfl)
theorem dX4_addWall_113 : decode cX4_addWall 113 = .ok (.aload_n 0, 1) := dk_42 (dk_at dksX4_addWall_4 17 rfl rfl)
theorem dX4_addWall_114 : decode cX4_addWall 114 = .ok (.iconst 3, 1) := dk_6 (dk_at dksX4_addWall_4 18 rfl rfl)
theorem dX4_addWall_115 : decode cX4_addWall 115 = .ok (.invokevirtual 98, 3) := dk_182 0 98 (dk_at dksX4_addWall_4 19 rfl rfl)
theorem dX4_addWall_118 : decode cX4_addWall 118 = .ok (.ireturn, 1) := dk_172 (dk_at dksX4_addWall_4 22 rfl rfl)
theorem dX4_addWall_119 : decode cX4_addWall 119 = .ok (.aload_n 0, 1) := dk_42 (dk_at dksX4_addWall_4 23 rfl rfl)
theorem dX4_addWall_120 : decode cX4_addWall 120 = .ok (.invokevirtual 369, 3) := dk_182 1 113 (dk_at dksX4_addWall_5 0 rfl rfl)
theorem dX4_addWall_123 : decode cX4_addWall 123 = .ok (.sipush 150, 3) := dk_17 0 150 (dk_at dksX4_addWall_5 3 rfl rfl)
theorem dX4_addWall_126 : decode cX4_addWall 126 = .ok (.bipush 6, 2) := dk_16 6 (dk_at dksX4_addWall_5 6 rfl rfl)
theorem dX4_addWall_128 : decode cX4_addWall 128 = .ok (.iload 7, 2) := dk_21 7 (dk_at dksX4_addWall_5 8 rfl rfl)
theorem dX4_addWall_130 : decode cX4_addWall 130 = .ok (.imul, 1) := dk_104 (dk_at dksX4_addWall_5 10 rfl rfl)
theorem dX4_addWall_131 : decode cX4_addWall 131 = .ok (.iadd, 1) := dk_96 (dk_at dksX4_addWall_5 11 rfl rfl)
theorem dX4_addWall_132 : decode cX4_addWall 132 = .ok (.istore 8, 2) := dk_54 8 (dk_at dksX4_addWall_5 12 rfl rfl)
theorem dX4_addWall_134 : decode cX4_addWall 134 = .ok (.aload_n 0, 1) := dk_42 (dk_at dksX4_addWall_5 14 rfl rfl)
theorem dX4_addWall_135 : decode cX4_addWall 135 = .ok (.iload 8, 2) := dk_21 8 (dk_at dksX4_addWall_5 15 rfl rfl)
theorem dX4_addWall_137 : decode cX4_addWall 137 = .ok (.iload_n 1, 1) := dk_27 (dk_at dksX4_addWall_5 17 rfl rfl)
theorem dX4_addWall_138 : decode cX4_addWall 138 = .ok (.invokevirtual 73, 3) := dk_182 0 73 (dk_at dksX4_addWall_5 18 rfl rfl)
theorem dX4_addWall_141 : decode cX4_addWall 141 = .ok (.aload_n 0, 1) := dk_42 (dk_at dksX4_addWall_5 21 rfl rfl)
theorem dX4_addWall_142 : decode cX4_addWall 142 = .ok (.iload 8, 2) := dk_21 8 (dk_at dksX4_addWall_5 22 rfl rfl)
theorem dX4_addWall_144 : decode cX4_addWall 144 = .ok (.iconst 1, 1) := dk_4 (dk_at dksX4_addWall_6 0 rfl rfl)
theorem dX4_addWall_145 : decode cX4_addWall 145 = .ok (.iadd, 1) := dk_96 (dk_at dksX4_addWall_6 1 rfl rfl)
theorem dX4_addWall_146 : decode cX4_addWall 146 = .ok (.iload_n 2, 1) := dk_28 (dk_at dksX4_addWall_6 2 rfl rfl)
theorem dX4_addWall_147 : decode cX4_addWall 147 = .ok (.invokevirtual 73, 3) := dk_182 0 73 (dk_at dksX4_addWall_6 3 rfl rfl)
theorem dX4_addWall_150 : decode cX4_addWall 150 = .ok (.aload_n 0, 1) := dk_42 (dk_at dksX4_addWall_6 6 rfl rfl)
theorem dX4_addWall_151 : decode cX4_addWall 151 = .ok (.iload 8, 2) := dk_21 8 (dk_at dksX4_addWall_6 7 rfl rfl)
theorem dX4_addWall_153 : decode cX4_addWall 153 = .ok (.iconst 2, 1) := dk_5 (dk_at dksX4_addWall_6 9 rfl rfl)
theorem dX4_addWall_154 : decode cX4_addWall 154 = .ok (.iadd, 1) := dk_96 (dk_at dksX4_addWall_6 10 rfl rfl)
theorem dX4_addWall_155 : decode cX4_addWall 155 = .ok (.iload_n 3, 1) := dk_29 (dk_at dksX4_addWall_6 11 rfl rfl)
theorem dX4_addWall_156 : decode cX4_addWall 156 = .ok (.invokevirtual 73, 3) := dk_182 0 73 (dk_at dksX4_addWall_6 12 rfl rfl)
theorem dX4_addWall_159 : decode cX4_addWall 159 = .ok (.aload_n 0, 1) := dk_42 (dk_at dksX4_addWall_6 15 rfl rfl)
theorem dX4_addWall_160 : decode cX4_addWall 160 = .ok (.iload 8, 2) := dk_21 8 (dk_at dksX4_addWall_6 16 rfl rfl)
theorem dX4_addWall_162 : decode cX4_addWall 162 = .ok (.iconst 3, 1) := dk_6 (dk_at dksX4_addWall_6 18 rfl rfl)
theorem dX4_addWall_163 : decode cX4_addWall 163 = .ok (.iadd, 1) := dk_96 (dk_at dksX4_addWall_6 19 rfl rfl)
theorem dX4_addWall_164 : decode cX4_addWall 164 = .ok (.iload 4, 2) := dk_21 4 (dk_at dksX4_addWall_6 20 rfl rfl)
theorem dX4_addWall_166 : decode cX4_addWall 166 = .ok (.invokevirtual 73, 3) := dk_182 0 73 (dk_at dksX4_addWall_7 0 rfl rfl)
theorem dX4_addWall_169 : decode cX4_addWall 169 = .ok (.aload_n 0, 1) := dk_42 (dk_at dksX4_addWall_7 3 rfl rfl)
theorem dX4_addWall_170 : decode cX4_addWall 170 = .ok (.iload 8, 2) := dk_21 8 (dk_at dksX4_addWall_7 4 rfl rfl)
theorem dX4_addWall_172 : decode cX4_addWall 172 = .ok (.iconst 4, 1) := dk_7 (dk_at dksX4_addWall_7 6 rfl rfl)
theorem dX4_addWall_173 : decode cX4_addWall 173 = .ok (.iadd, 1) := dk_96 (dk_at dksX4_addWall_7 7 rfl rfl)
theorem dX4_addWall_174 : decode cX4_addWall 174 = .ok (.iload 5, 2) := dk_21 5 (dk_at dksX4_addWall_7 8 rfl rfl)
theorem dX4_addWall_176 : decode cX4_addWall 176 = .ok (.invokevirtual 73, 3) := dk_182 0 73 (dk_at dksX4_addWall_7 10 rfl rfl)
theorem dX4_addWall_179 : decode cX4_addWall 179 = .ok (.aload_n 0, 1) := dk_42 (dk_at dksX4_addWall_7 13 rfl rfl)
theorem dX4_addWall_180 : decode cX4_addWall 180 = .ok (.iload 8, 2) := dk_21 8 (dk_at dksX4_addWall_7 14 rfl rfl)
theorem dX4_addWall_182 : decode cX4_addWall 182 = .ok (.iconst 5, 1) := dk_8 (dk_at dksX4_addWall_7 16 rfl rfl)
theorem dX4_addWall_183 : decode cX4_addWall 183 = .ok (.iadd, 1) := dk_96 (dk_at dksX4_addWall_7 17 rfl rfl)
theorem dX4_addWall_184 : decode cX4_addWall 184 = .ok (.iload 6, 2) := dk_21 6 (dk_at dksX4_addWall_7 18 rfl rfl)
theorem dX4_addWall_186 : decode cX4_addWall 186 = .ok (.invokevirtual 73, 3) := dk_182 0 73 (dk_at dksX4_addWall_7 20 rfl rfl)
theorem dX4_addWall_189 : decode cX4_addWall 189 = .ok (.aload_n 0, 1) := dk_42 (dk_at dksX4_addWall_7 23 rfl rfl)
theorem dX4_addWall_190 : decode cX4_addWall 190 = .ok (.sipush 149, 3) := dk_17 0 149 (dk_at dksX4_addWall_8 0 rfl rfl)
theorem dX4_addWall_193 : decode cX4_addWall 193 = .ok (.iload 7, 2) := dk_21 7 (dk_at dksX4_addWall_8 3 rfl rfl)
theorem dX4_addWall_195 : decode cX4_addWall 195 = .ok (.iconst 1, 1) := dk_4 (dk_at dksX4_addWall_8 5 rfl rfl)
theorem dX4_addWall_196 : decode cX4_addWall 196 = .ok (.iadd, 1) := dk_96 (dk_at dksX4_addWall_8 6 rfl rfl)
theorem dX4_addWall_197 : decode cX4_addWall 197 = .ok (.invokevirtual 73, 3) := dk_182 0 73 (dk_at dksX4_addWall_8 7 rfl rfl)
theorem dX4_addWall_200 : decode cX4_addWall 200 = .ok (.iload 7, 2) := dk_21 7 (dk_at dksX4_addWall_8 10 rfl rfl)
theorem dX4_addWall_202 : decode cX4_addWall 202 = .ok (.ireturn, 1) := dk_172 (dk_at dksX4_addWall_8 12 rfl rfl)
abbrev cX4_removeWall : ByteArray := prog_17_method_127_code
def yX4_removeWall : MethodName := ⟨RX4, "removeWall", "(I)I"⟩
def dkwX4_removeWall_2 : List UInt8 := [182, 0, 69, 4, 100, 182, 0, 73, 42, 17, 0, 149, 182, 0, 69, 172]
abbrev dktX4_removeWall_2 : List UInt8 := dkwX4_removeWall_2 ++ []
def dkwX4_removeWall_1 : List UInt8 := [17, 0, 150, 16, 6, 42, 17, 0, 149, 182, 0, 69, 27, 182, 1, 103, 42, 17, 0, 149, 42, 17, 0, 149]
abbrev dktX4_removeWall_1 : List UInt8 := dkwX4_removeWall_1 ++ dktX4_removeWall_2
def dkwX4_removeWall_0 : List UInt8 := [42, 3, 181, 0, 63, 42, 27, 182, 1, 75, 154, 0, 9, 42, 4, 182, 0, 98, 172, 42, 182, 1, 113, 42]
abbrev dktX4_removeWall_0 : List UInt8 := dkwX4_removeWall_0 ++ dktX4_removeWall_1
theorem dksX4_removeWall_0 : cX4_removeWall.data.toList.drop 0 = dktX4_removeWall_0 := by decide +kernel
theorem dksX4_removeWall_1 : cX4_removeWall.data.toList.drop 24 = dktX4_removeWall_1 := dk_seg dksX4_removeWall_0 24 rfl rfl
theorem dksX4_removeWall_2 : cX4_removeWall.data.toList.drop 48 = dktX4_removeWall_2 := dk_seg dksX4_removeWall_1 24 rfl rfl
theorem dX4_removeWall_0 : decode cX4_removeWall 0 = .ok (.aload_n 0, 1) := dk_42 (dk_at dksX4_removeWall_0 0 rfl rfl)
theorem dX4_removeWall_1 : decode cX4_removeWall 1 = .ok (.iconst 0, 1) := dk_3 (dk_at dksX4_removeWall_0 1 rfl rfl)
theorem dX4_removeWall_2 : decode cX4_removeWall 2 = .ok (.putfield 63, 3) := dk_181 0 63 (dk_at dksX4_removeWall_0 2 rfl rfl)
theorem dX4_removeWall_5 : decode cX4_removeWall 5 = .ok (.aload_n 0, 1) := dk_42 (dk_at dksX4_removeWall_0 5 rfl rfl)
theorem dX4_removeWall_6 : decode cX4_removeWall 6 = .ok (.iload_n 1, 1) := dk_27 (dk_at dksX4_removeWall_0 6 rfl rfl)
theorem dX4_removeWall_7 : decode cX4_removeWall 7 = .ok (.invokevirtual 331, 3) := dk_182 1 75 (dk_at dksX4_removeWall_0 7 rfl rfl)
theorem dX4_removeWall_10 : decode cX4_removeWall 10 = .ok (.ifCond .ne 9, 3) := dk_154 0 9 (dk_at dksX4_removeWall_0 10 rfl rfl)
theorem dX4_removeWall_13 : decode cX4_removeWall 13 = .ok (.aload_n 0, 1) := dk_42 (dk_at dksX4_removeWall_0 13 rfl rfl)
theorem dX4_removeWall_14 : decode cX4_removeWall 14 = .ok (.iconst 1, 1) := dk_4 (dk_at dksX4_removeWall_0 14 rfl rfl)
theorem dX4_removeWall_15 : decode cX4_removeWall 15 = .ok (.invokevirtual 98, 3) := dk_182 0 98 (dk_at dksX4_removeWall_0 15 rfl rfl)
theorem dX4_removeWall_18 : decode cX4_removeWall 18 = .ok (.ireturn, 1) := dk_172 (dk_at dksX4_removeWall_0 18 rfl rfl)
theorem dX4_removeWall_19 : decode cX4_removeWall 19 = .ok (.aload_n 0, 1) := dk_42 (dk_at dksX4_removeWall_0 19 rfl rfl)
theorem dX4_removeWall_20 : decode cX4_removeWall 20 = .ok (.invokevirtual 369, 3) := dk_182 1 113 (dk_at dksX4_removeWall_0 20 rfl rfl)
theorem dX4_removeWall_23 : decode cX4_removeWall 23 = .ok (.aload_n 0, 1) := dk_42 (dk_at dksX4_removeWall_0 23 rfl rfl)
theorem dX4_removeWall_24 : decode cX4_removeWall 24 = .ok (.sipush 150, 3) := dk_17 0 150 (dk_at dksX4_removeWall_1 0 rfl rfl)
theorem dX4_removeWall_27 : decode cX4_removeWall 27 = .ok (.bipush 6, 2) := dk_16 6 (dk_at dksX4_removeWall_1 3 rfl rfl)
theorem dX4_removeWall_29 : decode cX4_removeWall 29 = .ok (.aload_n 0, 1) := dk_42 (dk_at dksX4_removeWall_1 5 rfl rfl)
theorem dX4_removeWall_30 : decode cX4_removeWall 30 = .ok (.sipush 149, 3) := dk_17 0 149 (dk_at dksX4_removeWall_1 6 rfl rfl)
theorem dX4_removeWall_33 : decode cX4_removeWall 33 = .ok (.invokevirtual 69, 3) := dk_182 0 69 (dk_at dksX4_removeWall_1 9 rfl rfl)
theorem dX4_removeWall_36 : decode cX4_removeWall 36 = .ok (.iload_n 1, 1) := dk_27 (dk_at dksX4_removeWall_1 12 rfl rfl)
theorem dX4_removeWall_37 : decode cX4_removeWall 37 = .ok (.invokevirtual 359, 3) := dk_182 1 103 (dk_at dksX4_removeWall_1 13 rfl rfl)
theorem dX4_removeWall_40 : decode cX4_removeWall 40 = .ok (.aload_n 0, 1) := dk_42 (dk_at dksX4_removeWall_1 16 rfl rfl)
theorem dX4_removeWall_41 : decode cX4_removeWall 41 = .ok (.sipush 149, 3) := dk_17 0 149 (dk_at dksX4_removeWall_1 17 rfl rfl)
theorem dX4_removeWall_44 : decode cX4_removeWall 44 = .ok (.aload_n 0, 1) := dk_42 (dk_at dksX4_removeWall_1 20 rfl rfl)
theorem dX4_removeWall_45 : decode cX4_removeWall 45 = .ok (.sipush 149, 3) := dk_17 0 149 (dk_at dksX4_removeWall_1 21 rfl rfl)
theorem dX4_removeWall_48 : decode cX4_removeWall 48 = .ok (.invokevirtual 69, 3) := dk_182 0 69 (dk_at dksX4_removeWall_2 0 rfl rfl)
theorem dX4_removeWall_51 : decode cX4_removeWall 51 = .ok (.iconst 1, 1) := dk_4 (dk_at dksX4_removeWall_2 3 rfl rfl)
theorem dX4_removeWall_52 : decode cX4_removeWall 52 = .ok (.isub, 1) := dk_100 (dk_at dksX4_removeWall_2 4 rfl rfl)
theorem dX4_removeWall_53 : decode cX4_removeWall 53 = .ok (.invokevirtual 73, 3) := dk_182 0 73 (dk_at dksX4_removeWall_2 5 rfl rfl)
theorem dX4_removeWall_56 : decode cX4_removeWall 56 = .ok (.aload_n 0, 1) := dk_42 (dk_at dksX4_removeWall_2 8 rfl rfl)
theorem dX4_removeWall_57 : decode cX4_removeWall 57 = .ok (.sipush 149, 3) := dk_17 0 149 (dk_at dksX4_removeWall_2 9 rfl rfl)
theorem dX4_removeWall_60 : decode cX4_removeWall 60 = .ok (.invokevirtual 69, 3) := dk_182 0 69 (dk_at dksX4_removeWall_2 12 rfl rfl)
theorem dX4_removeWall_63 : decode cX4_removeWall 63 = .ok (.ireturn, 1) := dk_172 (dk_at dksX4_removeWall_2 15 rfl rfl)
abbrev cX4_format : ByteArray := prog_17_method_131_code
def yX4_format : MethodName := ⟨RX4, "format", "(I)I"⟩
def dkwX4_format_6 : List UInt8 := [182, 1, 72, 153, 0, 15, 42, 16, 32, 182, 1, 125, 42, 16, 33, 182, 1, 125, 42, 180, 1, 122, 172]
abbrev dktX4_format_6 : List UInt8 := dkwX4_format_6 ++ []
def dkwX4_format_5 : List UInt8 := [167, 0, 5, 16, 45, 182, 1, 125, 42, 29, 184, 0, 243, 182, 1, 134, 132, 2, 1, 167, 255, 148, 42, 27]
abbrev dktX4_format_5 : List UInt8 := dkwX4_format_5 ++ dktX4_format_6
def dkwX4_format_4 : List UInt8 := [182, 1, 134, 42, 28, 27, 182, 1, 51, 62, 29, 154, 0, 6, 167, 0, 26, 42, 29, 158, 0, 8, 16, 43]
abbrev dktX4_format_4 : List UInt8 := dkwX4_format_4 ++ dktX4_format_5
def dkwX4_format_3 : List UInt8 := [182, 1, 42, 156, 0, 9, 42, 16, 45, 182, 1, 125, 42, 42, 28, 27, 182, 1, 42, 184, 0, 243]
abbrev dktX4_format_3 : List UInt8 := dkwX4_format_3 ++ dktX4_format_4
def dkwX4_format_2 : List UInt8 := [16, 32, 182, 1, 125, 42, 42, 180, 0, 13, 28, 47, 182, 1, 130, 42, 16, 32, 182, 1, 125, 42, 28, 27]
abbrev dktX4_format_2 : List UInt8 := dkwX4_format_2 ++ dktX4_format_3
def dkwX4_format_1 : List UInt8 := [181, 1, 122, 3, 61, 28, 42, 180, 0, 81, 162, 0, 106, 28, 158, 0, 15, 42, 16, 59, 182, 1, 125, 42]
abbrev dktX4_format_1 : List UInt8 := dkwX4_format_1 ++ dktX4_format_2
def dkwX4_format_0 : List UInt8 := [42, 3, 181, 0, 63, 27, 184, 1, 45, 154, 0, 9, 42, 4, 182, 0, 98, 172, 42, 182, 1, 54, 42, 3]
abbrev dktX4_format_0 : List UInt8 := dkwX4_format_0 ++ dktX4_format_1
theorem dksX4_format_0 : cX4_format.data.toList.drop 0 = dktX4_format_0 := by decide +kernel
theorem dksX4_format_1 : cX4_format.data.toList.drop 24 = dktX4_format_1 := dk_seg dksX4_format_0 24 rfl rfl
theorem dksX4_format_2 : cX4_format.data.toList.drop 48 = dktX4_format_2 := dk_seg dksX4_format_1 24 rfl rfl
theorem dksX4_format_3 : cX4_format.data.toList.drop 72 = dktX4_format_3 := dk_seg dksX4_format_2 24 rfl rfl
theorem dksX4_format_4 : cX4_format.data.toList.drop 94 = dktX4_format_4 := dk_seg dksX4_format_3 22 rfl rfl
theorem dksX4_format_5 : cX4_format.data.toList.drop 118 = dktX4_format_5 := dk_seg dksX4_format_4 24 rfl rfl
theorem dksX4_format_6 : cX4_format.data.toList.drop 142 = dktX4_format_6 := dk_seg dksX4_format_5 24 rfl rfl
theorem dX4_format_0 : decode cX4_format 0 = .ok (.aload_n 0, 1) := dk_42 (dk_at dksX4_format_0 0 rfl rfl)
theorem dX4_format_1 : decode cX4_format 1 = .ok (.iconst 0, 1) := dk_3 (dk_at dksX4_format_0 1 rfl rfl)
theorem dX4_format_2 : decode cX4_format 2 = .ok (.putfield 63, 3) := dk_181 0 63 (dk_at dksX4_format_0 2 rfl rfl)
theorem dX4_format_5 : decode cX4_format 5 = .ok (.iload_n 1, 1) := dk_27 (dk_at dksX4_format_0 5 rfl rfl)
theorem dX4_format_6 : decode cX4_format 6 = .ok (.invokestatic 301, 3) := dk_184 1 45 (dk_at dksX4_format_0 6 rfl rfl)
theorem dX4_format_9 : decode cX4_format 9 = .ok (.ifCond .ne 9, 3) := dk_154 0 9 (dk_at dksX4_format_0 9 rfl rfl)
theorem dX4_format_12 : decode cX4_format 12 = .ok (.aload_n 0, 1) := dk_42 (dk_at dksX4_format_0 12 rfl rfl)
theorem dX4_format_13 : decode cX4_format 13 = .ok (.iconst 1, 1) := dk_4 (dk_at dksX4_format_0 13 rfl rfl)
theorem dX4_format_14 : decode cX4_format 14 = .ok (.invokevirtual 98, 3) := dk_182 0 98 (dk_at dksX4_format_0 14 rfl rfl)
theorem dX4_format_17 : decode cX4_format 17 = .ok (.ireturn, 1) := dk_172 (dk_at dksX4_format_0 17 rfl rfl)
theorem dX4_format_18 : decode cX4_format 18 = .ok (.aload_n 0, 1) := dk_42 (dk_at dksX4_format_0 18 rfl rfl)
theorem dX4_format_19 : decode cX4_format 19 = .ok (.invokevirtual 310, 3) := dk_182 1 54 (dk_at dksX4_format_0 19 rfl rfl)
theorem dX4_format_22 : decode cX4_format 22 = .ok (.aload_n 0, 1) := dk_42 (dk_at dksX4_format_0 22 rfl rfl)
theorem dX4_format_23 : decode cX4_format 23 = .ok (.iconst 0, 1) := dk_3 (dk_at dksX4_format_0 23 rfl rfl)
theorem dX4_format_24 : decode cX4_format 24 = .ok (.putfield 378, 3) := dk_181 1 122 (dk_at dksX4_format_1 0 rfl rfl)
theorem dX4_format_27 : decode cX4_format 27 = .ok (.iconst 0, 1) := dk_3 (dk_at dksX4_format_1 3 rfl rfl)
theorem dX4_format_28 : decode cX4_format 28 = .ok (.istore_n 2, 1) := dk_61 (dk_at dksX4_format_1 4 rfl rfl)
theorem dX4_format_29 : decode cX4_format 29 = .ok (.iload_n 2, 1) := dk_28 (dk_at dksX4_format_1 5 rfl rfl)
theorem dX4_format_30 : decode cX4_format 30 = .ok (.aload_n 0, 1) := dk_42 (dk_at dksX4_format_1 6 rfl rfl)
theorem dX4_format_31 : decode cX4_format 31 = .ok (.getfield 81, 3) := dk_180 0 81 (dk_at dksX4_format_1 7 rfl rfl)
theorem dX4_format_34 : decode cX4_format 34 = .ok (.if_icmp .ge 106, 3) := dk_162 0 106 (dk_at dksX4_format_1 10 rfl rfl)
theorem dX4_format_37 : decode cX4_format 37 = .ok (.iload_n 2, 1) := dk_28 (dk_at dksX4_format_1 13 rfl rfl)
theorem dX4_format_38 : decode cX4_format 38 = .ok (.ifCond .le 15, 3) := dk_158 0 15 (dk_at dksX4_format_1 14 rfl rfl)
theorem dX4_format_41 : decode cX4_format 41 = .ok (.aload_n 0, 1) := dk_42 (dk_at dksX4_format_1 17 rfl rfl)
theorem dX4_format_42 : decode cX4_format 42 = .ok (.bipush 59, 2) := dk_16 59 (dk_at dksX4_format_1 18 rfl rfl)
theorem dX4_format_44 : decode cX4_format 44 = .ok (.invokevirtual 381, 3) := dk_182 1 125 (dk_at dksX4_format_1 20 rfl rfl)
theorem dX4_format_47 : decode cX4_format 47 = .ok (.aload_n 0, 1) := dk_42 (dk_at dksX4_format_1 23 rfl rfl)
theorem dX4_format_48 : decode cX4_format 48 = .ok (.bipush 32, 2) := dk_16 32 (dk_at dksX4_format_2 0 rfl rfl)
theorem dX4_format_50 : decode cX4_format 50 = .ok (.invokevirtual 381, 3) := dk_182 1 125 (dk_at dksX4_format_2 2 rfl rfl)
theorem dX4_format_53 : decode cX4_format 53 = .ok (.aload_n 0, 1) := dk_42 (dk_at dksX4_format_2 5 rfl rfl)
theorem dX4_format_54 : decode cX4_format 54 = .ok (.aload_n 0, 1) := dk_42 (dk_at dksX4_format_2 6 rfl rfl)
theorem dX4_format_55 : decode cX4_format 55 = .ok (.getfield 13, 3) := dk_180 0 13 (dk_at dksX4_format_2 7 rfl rfl)
theorem dX4_format_58 : decode cX4_format 58 = .ok (.iload_n 2, 1) := dk_28 (dk_at dksX4_format_2 10 rfl rfl)
theorem dX4_format_59 : decode cX4_format 59 = .ok (.laload, 1) := dk_47 (dk_at dksX4_format_2 11 rfl rfl)
theorem dX4_format_60 : decode cX4_format 60 = .ok (.invokevirtual 386, 3) := dk_182 1 130 (dk_at dksX4_format_2 12 rfl rfl)
theorem dX4_format_63 : decode cX4_format 63 = .ok (.aload_n 0, 1) := dk_42 (dk_at dksX4_format_2 15 rfl rfl)
theorem dX4_format_64 : decode cX4_format 64 = .ok (.bipush 32, 2) := dk_16 32 (dk_at dksX4_format_2 16 rfl rfl)
theorem dX4_format_66 : decode cX4_format 66 = .ok (.invokevirtual 381, 3) := dk_182 1 125 (dk_at dksX4_format_2 18 rfl rfl)
theorem dX4_format_69 : decode cX4_format 69 = .ok (.aload_n 0, 1) := dk_42 (dk_at dksX4_format_2 21 rfl rfl)
theorem dX4_format_70 : decode cX4_format 70 = .ok (.iload_n 2, 1) := dk_28 (dk_at dksX4_format_2 22 rfl rfl)
theorem dX4_format_71 : decode cX4_format 71 = .ok (.iload_n 1, 1) := dk_27 (dk_at dksX4_format_2 23 rfl rfl)
theorem dX4_format_72 : decode cX4_format 72 = .ok (.invokevirtual 298, 3) := dk_182 1 42 (dk_at dksX4_format_3 0 rfl rfl)
theorem dX4_format_75 : decode cX4_format 75 = .ok (.ifCond .ge 9, 3) := dk_156 0 9 (dk_at dksX4_format_3 3 rfl rfl)
theorem dX4_format_78 : decode cX4_format 78 = .ok (.aload_n 0, 1) := dk_42 (dk_at dksX4_format_3 6 rfl rfl)
theorem dX4_format_79 : decode cX4_format 79 = .ok (.bipush 45, 2) := dk_16 45 (dk_at dksX4_format_3 7 rfl rfl)
theorem dX4_format_81 : decode cX4_format 81 = .ok (.invokevirtual 381, 3) := dk_182 1 125 (dk_at dksX4_format_3 9 rfl rfl)
theorem dX4_format_84 : decode cX4_format 84 = .ok (.aload_n 0, 1) := dk_42 (dk_at dksX4_format_3 12 rfl rfl)
theorem dX4_format_85 : decode cX4_format 85 = .ok (.aload_n 0, 1) := dk_42 (dk_at dksX4_format_3 13 rfl rfl)
theorem dX4_format_86 : decode cX4_format 86 = .ok (.iload_n 2, 1) := dk_28 (dk_at dksX4_format_3 14 rfl rfl)
theorem dX4_format_87 : decode cX4_format 87 = .ok (.iload_n 1, 1) := dk_27 (dk_at dksX4_format_3 15 rfl rfl)
theorem dX4_format_88 : decode cX4_format 88 = .ok (.invokevirtual 298, 3) := dk_182 1 42 (dk_at dksX4_format_3 16 rfl rfl)
theorem dX4_format_91 : decode cX4_format 91 = .ok (.invokestatic 243, 3) := dk_184 0 243 (dk_at dksX4_format_3 19 rfl rfl)
theorem dX4_format_94 : decode cX4_format 94 = .ok (.invokevirtual 390, 3) := dk_182 1 134 (dk_at dksX4_format_4 0 rfl rfl)
theorem dX4_format_97 : decode cX4_format 97 = .ok (.aload_n 0, 1) := dk_42 (dk_at dksX4_format_4 3 rfl rfl)
theorem dX4_format_98 : decode cX4_format 98 = .ok (.iload_n 2, 1) := dk_28 (dk_at dksX4_format_4 4 rfl rfl)
theorem dX4_format_99 : decode cX4_format 99 = .ok (.iload_n 1, 1) := dk_27 (dk_at dksX4_format_4 5 rfl rfl)
theorem dX4_format_100 : decode cX4_format 100 = .ok (.invokevirtual 307, 3) := dk_182 1 51 (dk_at dksX4_format_4 6 rfl rfl)
theorem dX4_format_103 : decode cX4_format 103 = .ok (.istore_n 3, 1) := dk_62 (dk_at dksX4_format_4 9 rfl rfl)
theorem dX4_format_104 : decode cX4_format 104 = .ok (.iload_n 3, 1) := dk_29 (dk_at dksX4_format_4 10 rfl rfl)
theorem dX4_format_105 : decode cX4_format 105 = .ok (.ifCond .ne 6, 3) := dk_154 0 6 (dk_at dksX4_format_4 11 rfl rfl)
theorem dX4_format_108 : decode cX4_format 108 = .ok (.goto 26, 3) := dk_167 0 26 (dk_at dksX4_format_4 14 rfl rfl)
theorem dX4_format_111 : decode cX4_format 111 = .ok (.aload_n 0, 1) := dk_42 (dk_at dksX4_format_4 17 rfl rfl)
theorem dX4_format_112 : decode cX4_format 112 = .ok (.iload_n 3, 1) := dk_29 (dk_at dksX4_format_4 18 rfl rfl)
theorem dX4_format_113 : decode cX4_format 113 = .ok (.ifCond .le 8, 3) := dk_158 0 8 (dk_at dksX4_format_4 19 rfl rfl)
theorem dX4_format_116 : decode cX4_format 116 = .ok (.bipush 43, 2) := dk_16 43 (dk_at dksX4_format_4 22 rfl rfl)
theorem dX4_format_118 : decode cX4_format 118 = .ok (.goto 5, 3) := dk_167 0 5 (dk_at dksX4_format_5 0 rfl rfl)
theorem dX4_format_121 : decode cX4_format 121 = .ok (.bipush 45, 2) := dk_16 45 (dk_at dksX4_format_5 3 rfl rfl)
theorem dX4_format_123 : decode cX4_format 123 = .ok (.invokevirtual 381, 3) := dk_182 1 125 (dk_at dksX4_format_5 5 rfl rfl)
theorem dX4_format_126 : decode cX4_format 126 = .ok (.aload_n 0, 1) := dk_42 (dk_at dksX4_format_5 8 rfl rfl)
theorem dX4_format_127 : decode cX4_format 127 = .ok (.iload_n 3, 1) := dk_29 (dk_at dksX4_format_5 9 rfl rfl)
theorem dX4_format_128 : decode cX4_format 128 = .ok (.invokestatic 243, 3) := dk_184 0 243 (dk_at dksX4_format_5 10 rfl rfl)
theorem dX4_format_131 : decode cX4_format 131 = .ok (.invokevirtual 390, 3) := dk_182 1 134 (dk_at dksX4_format_5 13 rfl rfl)
theorem dX4_format_134 : decode cX4_format 134 = .ok (.iinc 2 1, 3) := dk_132 2 1 (dk_at dksX4_format_5 16 rfl rfl)
theorem dX4_format_137 : decode cX4_format 137 = .ok (.goto (-108), 3) := dk_167 255 148 (dk_at dksX4_format_5 19 rfl rfl)
theorem dX4_format_140 : decode cX4_format 140 = .ok (.aload_n 0, 1) := dk_42 (dk_at dksX4_format_5 22 rfl rfl)
theorem dX4_format_141 : decode cX4_format 141 = .ok (.iload_n 1, 1) := dk_27 (dk_at dksX4_format_5 23 rfl rfl)
theorem dX4_format_142 : decode cX4_format 142 = .ok (.invokevirtual 328, 3) := dk_182 1 72 (dk_at dksX4_format_6 0 rfl rfl)
theorem dX4_format_145 : decode cX4_format 145 = .ok (.ifCond .eq 15, 3) := dk_153 0 15 (dk_at dksX4_format_6 3 rfl rfl)
theorem dX4_format_148 : decode cX4_format 148 = .ok (.aload_n 0, 1) := dk_42 (dk_at dksX4_format_6 6 rfl rfl)
theorem dX4_format_149 : decode cX4_format 149 = .ok (.bipush 32, 2) := dk_16 32 (dk_at dksX4_format_6 7 rfl rfl)
theorem dX4_format_151 : decode cX4_format 151 = .ok (.invokevirtual 381, 3) := dk_182 1 125 (dk_at dksX4_format_6 9 rfl rfl)
theorem dX4_format_154 : decode cX4_format 154 = .ok (.aload_n 0, 1) := dk_42 (dk_at dksX4_format_6 12 rfl rfl)
theorem dX4_format_155 : decode cX4_format 155 = .ok (.bipush 33, 2) := dk_16 33 (dk_at dksX4_format_6 13 rfl rfl)
theorem dX4_format_157 : decode cX4_format 157 = .ok (.invokevirtual 381, 3) := dk_182 1 125 (dk_at dksX4_format_6 15 rfl rfl)
theorem dX4_format_160 : decode cX4_format 160 = .ok (.aload_n 0, 1) := dk_42 (dk_at dksX4_format_6 18 rfl rfl)
theorem dX4_format_161 : decode cX4_format 161 = .ok (.getfield 378, 3) := dk_180 1 122 (dk_at dksX4_format_6 19 rfl rfl)
theorem dX4_format_164 : decode cX4_format 164 = .ok (.ireturn, 1) := dk_172 (dk_at dksX4_format_6 22 rfl rfl)
abbrev cX4_say : ByteArray := prog_17_method_128_code
def yX4_say : MethodName := ⟨RX4, "say", "(I)V"⟩
def dkwX4_say_0 : List UInt8 := [42, 180, 0, 27, 42, 180, 1, 122, 27, 146, 85, 42, 89, 180, 1, 122, 4, 96, 181, 1, 122, 177]
abbrev dktX4_say_0 : List UInt8 := dkwX4_say_0 ++ []
theorem dksX4_say_0 : cX4_say.data.toList.drop 0 = dktX4_say_0 := by decide +kernel
theorem dX4_say_0 : decode cX4_say 0 = .ok (.aload_n 0, 1) := dk_42 (dk_at dksX4_say_0 0 rfl rfl)
theorem dX4_say_1 : decode cX4_say 1 = .ok (.getfield 27, 3) := dk_180 0 27 (dk_at dksX4_say_0 1 rfl rfl)
theorem dX4_say_4 : decode cX4_say 4 = .ok (.aload_n 0, 1) := dk_42 (dk_at dksX4_say_0 4 rfl rfl)
theorem dX4_say_5 : decode cX4_say 5 = .ok (.getfield 378, 3) := dk_180 1 122 (dk_at dksX4_say_0 5 rfl rfl)
theorem dX4_say_8 : decode cX4_say 8 = .ok (.iload_n 1, 1) := dk_27 (dk_at dksX4_say_0 8 rfl rfl)
theorem dX4_say_9 : decode cX4_say 9 = .ok (.i2c, 1) := dk_146 (dk_at dksX4_say_0 9 rfl rfl)
theorem dX4_say_10 : decode cX4_say 10 = .ok (.castore, 1) := dk_85 (dk_at dksX4_say_0 10 rfl rfl)
theorem dX4_say_11 : decode cX4_say 11 = .ok (.aload_n 0, 1) := dk_42 (dk_at dksX4_say_0 11 rfl rfl)
theorem dX4_say_12 : decode cX4_say 12 = .ok (.dup, 1) := dk_89 (dk_at dksX4_say_0 12 rfl rfl)
theorem dX4_say_13 : decode cX4_say 13 = .ok (.getfield 378, 3) := dk_180 1 122 (dk_at dksX4_say_0 13 rfl rfl)
theorem dX4_say_16 : decode cX4_say 16 = .ok (.iconst 1, 1) := dk_4 (dk_at dksX4_say_0 16 rfl rfl)
theorem dX4_say_17 : decode cX4_say 17 = .ok (.iadd, 1) := dk_96 (dk_at dksX4_say_0 17 rfl rfl)
theorem dX4_say_18 : decode cX4_say 18 = .ok (.putfield 378, 3) := dk_181 1 122 (dk_at dksX4_say_0 18 rfl rfl)
theorem dX4_say_21 : decode cX4_say 21 = .ok (.return_, 1) := dk_177 (dk_at dksX4_say_0 21 rfl rfl)
abbrev cX4_sayName : ByteArray := prog_17_method_130_code
def yX4_sayName : MethodName := ⟨RX4, "sayName", "(J)V"⟩
def dkwX4_sayName_1 : List UInt8 := [21, 4, 16, 96, 96, 182, 1, 125, 132, 3, 251, 167, 255, 225, 177]
abbrev dktX4_sayName_1 : List UInt8 := dkwX4_sayName_1 ++ []
def dkwX4_sayName_0 : List UInt8 := [16, 35, 62, 29, 155, 0, 33, 31, 29, 123, 20, 1, 128, 127, 136, 54, 4, 21, 4, 158, 0, 12, 42]
abbrev dktX4_sayName_0 : List UInt8 := dkwX4_sayName_0 ++ dktX4_sayName_1
theorem dksX4_sayName_0 : cX4_sayName.data.toList.drop 0 = dktX4_sayName_0 := by decide +kernel
theorem dksX4_sayName_1 : cX4_sayName.data.toList.drop 23 = dktX4_sayName_1 := dk_seg dksX4_sayName_0 23 rfl rfl
theorem dX4_sayName_0 : decode cX4_sayName 0 = .ok (.bipush 35, 2) := dk_16 35 (dk_at dksX4_sayName_0 0 rfl rfl)
theorem dX4_sayName_2 : decode cX4_sayName 2 = .ok (.istore_n 3, 1) := dk_62 (dk_at dksX4_sayName_0 2 rfl rfl)
theorem dX4_sayName_3 : decode cX4_sayName 3 = .ok (.iload_n 3, 1) := dk_29 (dk_at dksX4_sayName_0 3 rfl rfl)
theorem dX4_sayName_4 : decode cX4_sayName 4 = .ok (.ifCond .lt 33, 3) := dk_155 0 33 (dk_at dksX4_sayName_0 4 rfl rfl)
theorem dX4_sayName_7 : decode cX4_sayName 7 = .ok (.lload_n 1, 1) := dk_31 (dk_at dksX4_sayName_0 7 rfl rfl)
theorem dX4_sayName_8 : decode cX4_sayName 8 = .ok (.iload_n 3, 1) := dk_29 (dk_at dksX4_sayName_0 8 rfl rfl)
theorem dX4_sayName_9 : decode cX4_sayName 9 = .ok (.lshr, 1) := dk_123 (dk_at dksX4_sayName_0 9 rfl rfl)
theorem dX4_sayName_10 : decode cX4_sayName 10 = .ok (.ldc2_w 384, 3) := dk_20 1 128 (dk_at dksX4_sayName_0 10 rfl rfl)
theorem dX4_sayName_13 : decode cX4_sayName 13 = .ok (.land, 1) := dk_127 (dk_at dksX4_sayName_0 13 rfl rfl)
theorem dX4_sayName_14 : decode cX4_sayName 14 = .ok (.l2i, 1) := dk_136 (dk_at dksX4_sayName_0 14 rfl rfl)
theorem dX4_sayName_15 : decode cX4_sayName 15 = .ok (.istore 4, 2) := dk_54 4 (dk_at dksX4_sayName_0 15 rfl rfl)
theorem dX4_sayName_17 : decode cX4_sayName 17 = .ok (.iload 4, 2) := dk_21 4 (dk_at dksX4_sayName_0 17 rfl rfl)
theorem dX4_sayName_19 : decode cX4_sayName 19 = .ok (.ifCond .le 12, 3) := dk_158 0 12 (dk_at dksX4_sayName_0 19 rfl rfl)
theorem dX4_sayName_22 : decode cX4_sayName 22 = .ok (.aload_n 0, 1) := dk_42 (dk_at dksX4_sayName_0 22 rfl rfl)
theorem dX4_sayName_23 : decode cX4_sayName 23 = .ok (.iload 4, 2) := dk_21 4 (dk_at dksX4_sayName_1 0 rfl rfl)
theorem dX4_sayName_25 : decode cX4_sayName 25 = .ok (.bipush 96, 2) := dk_16 96 (dk_at dksX4_sayName_1 2 rfl rfl)
theorem dX4_sayName_27 : decode cX4_sayName 27 = .ok (.iadd, 1) := dk_96 (dk_at dksX4_sayName_1 4 rfl rfl)
theorem dX4_sayName_28 : decode cX4_sayName 28 = .ok (.invokevirtual 381, 3) := dk_182 1 125 (dk_at dksX4_sayName_1 5 rfl rfl)
theorem dX4_sayName_31 : decode cX4_sayName 31 = .ok (.iinc 3 (-5), 3) := dk_132 3 251 (dk_at dksX4_sayName_1 8 rfl rfl)
theorem dX4_sayName_34 : decode cX4_sayName 34 = .ok (.goto (-31), 3) := dk_167 255 225 (dk_at dksX4_sayName_1 11 rfl rfl)
theorem dX4_sayName_37 : decode cX4_sayName 37 = .ok (.return_, 1) := dk_177 (dk_at dksX4_sayName_1 14 rfl rfl)
abbrev cX4_sayNumber : ByteArray := prog_17_method_129_code
def yX4_sayNumber : MethodName := ⟨RX4, "sayNumber", "(I)V"⟩
def dkwX4_sayNumber_1 : List UInt8 := [16, 48, 27, 28, 108, 16, 10, 112, 96, 182, 1, 125, 28, 16, 10, 108, 61, 167, 255, 234, 177]
abbrev dktX4_sayNumber_1 : List UInt8 := dkwX4_sayNumber_1 ++ []
def dkwX4_sayNumber_0 : List UInt8 := [4, 61, 27, 28, 108, 16, 9, 164, 0, 11, 28, 16, 10, 104, 61, 167, 255, 243, 28, 158, 0, 24, 42]
abbrev dktX4_sayNumber_0 : List UInt8 := dkwX4_sayNumber_0 ++ dktX4_sayNumber_1
theorem dksX4_sayNumber_0 : cX4_sayNumber.data.toList.drop 0 = dktX4_sayNumber_0 := by decide +kernel
theorem dksX4_sayNumber_1 : cX4_sayNumber.data.toList.drop 23 = dktX4_sayNumber_1 := dk_seg dksX4_sayNumber_0 23 rfl rfl
theorem dX4_sayNumber_0 : decode cX4_sayNumber 0 = .ok (.iconst 1, 1) := dk_4 (dk_at dksX4_sayNumber_0 0 rfl rfl)
theorem dX4_sayNumber_1 : decode cX4_sayNumber 1 = .ok (.istore_n 2, 1) := dk_61 (dk_at dksX4_sayNumber_0 1 rfl rfl)
theorem dX4_sayNumber_2 : decode cX4_sayNumber 2 = .ok (.iload_n 1, 1) := dk_27 (dk_at dksX4_sayNumber_0 2 rfl rfl)
theorem dX4_sayNumber_3 : decode cX4_sayNumber 3 = .ok (.iload_n 2, 1) := dk_28 (dk_at dksX4_sayNumber_0 3 rfl rfl)
theorem dX4_sayNumber_4 : decode cX4_sayNumber 4 = .ok (.idiv, 1) := dk_108 (dk_at dksX4_sayNumber_0 4 rfl rfl)
theorem dX4_sayNumber_5 : decode cX4_sayNumber 5 = .ok (.bipush 9, 2) := dk_16 9 (dk_at dksX4_sayNumber_0 5 rfl rfl)
theorem dX4_sayNumber_7 : decode cX4_sayNumber 7 = .ok (.if_icmp .le 11, 3) := dk_164 0 11 (dk_at dksX4_sayNumber_0 7 rfl rfl)
theorem dX4_sayNumber_10 : decode cX4_sayNumber 10 = .ok (.iload_n 2, 1) := dk_28 (dk_at dksX4_sayNumber_0 10 rfl rfl)
theorem dX4_sayNumber_11 : decode cX4_sayNumber 11 = .ok (.bipush 10, 2) := dk_16 10 (dk_at dksX4_sayNumber_0 11 rfl rfl)
theorem dX4_sayNumber_13 : decode cX4_sayNumber 13 = .ok (.imul, 1) := dk_104 (dk_at dksX4_sayNumber_0 13 rfl rfl)
theorem dX4_sayNumber_14 : decode cX4_sayNumber 14 = .ok (.istore_n 2, 1) := dk_61 (dk_at dksX4_sayNumber_0 14 rfl rfl)
theorem dX4_sayNumber_15 : decode cX4_sayNumber 15 = .ok (.goto (-13), 3) := dk_167 255 243 (dk_at dksX4_sayNumber_0 15 rfl rfl)
theorem dX4_sayNumber_18 : decode cX4_sayNumber 18 = .ok (.iload_n 2, 1) := dk_28 (dk_at dksX4_sayNumber_0 18 rfl rfl)
theorem dX4_sayNumber_19 : decode cX4_sayNumber 19 = .ok (.ifCond .le 24, 3) := dk_158 0 24 (dk_at dksX4_sayNumber_0 19 rfl rfl)
theorem dX4_sayNumber_22 : decode cX4_sayNumber 22 = .ok (.aload_n 0, 1) := dk_42 (dk_at dksX4_sayNumber_0 22 rfl rfl)
theorem dX4_sayNumber_23 : decode cX4_sayNumber 23 = .ok (.bipush 48, 2) := dk_16 48 (dk_at dksX4_sayNumber_1 0 rfl rfl)
theorem dX4_sayNumber_25 : decode cX4_sayNumber 25 = .ok (.iload_n 1, 1) := dk_27 (dk_at dksX4_sayNumber_1 2 rfl rfl)
theorem dX4_sayNumber_26 : decode cX4_sayNumber 26 = .ok (.iload_n 2, 1) := dk_28 (dk_at dksX4_sayNumber_1 3 rfl rfl)
theorem dX4_sayNumber_27 : decode cX4_sayNumber 27 = .ok (.idiv, 1) := dk_108 (dk_at dksX4_sayNumber_1 4 rfl rfl)
theorem dX4_sayNumber_28 : decode cX4_sayNumber 28 = .ok (.bipush 10, 2) := dk_16 10 (dk_at dksX4_sayNumber_1 5 rfl rfl)
theorem dX4_sayNumber_30 : decode cX4_sayNumber 30 = .ok (.irem, 1) := dk_112 (dk_at dksX4_sayNumber_1 7 rfl rfl)
theorem dX4_sayNumber_31 : decode cX4_sayNumber 31 = .ok (.iadd, 1) := dk_96 (dk_at dksX4_sayNumber_1 8 rfl rfl)
theorem dX4_sayNumber_32 : decode cX4_sayNumber 32 = .ok (.invokevirtual 381, 3) := dk_182 1 125 (dk_at dksX4_sayNumber_1 9 rfl rfl)
theorem dX4_sayNumber_35 : decode cX4_sayNumber 35 = .ok (.iload_n 2, 1) := dk_28 (dk_at dksX4_sayNumber_1 12 rfl rfl)
theorem dX4_sayNumber_36 : decode cX4_sayNumber 36 = .ok (.bipush 10, 2) := dk_16 10 (dk_at dksX4_sayNumber_1 13 rfl rfl)
theorem dX4_sayNumber_38 : decode cX4_sayNumber 38 = .ok (.idiv, 1) := dk_108 (dk_at dksX4_sayNumber_1 15 rfl rfl)
theorem dX4_sayNumber_39 : decode cX4_sayNumber 39 = .ok (.istore_n 2, 1) := dk_61 (dk_at dksX4_sayNumber_1 16 rfl rfl)
theorem dX4_sayNumber_40 : decode cX4_sayNumber 40 = .ok (.goto (-22), 3) := dk_167 255 234 (dk_at dksX4_sayNumber_1 17 rfl rfl)
theorem dX4_sayNumber_43 : decode cX4_sayNumber 43 = .ok (.return_, 1) := dk_177 (dk_at dksX4_sayNumber_1 20 rfl rfl)
abbrev cX4_formattedCharacter : ByteArray := prog_17_method_132_code
def yX4_formattedCharacter : MethodName := ⟨RX4, "formattedCharacter", "(I)C"⟩
def dkwX4_formattedCharacter_1 : List UInt8 := [3, 172, 42, 180, 0, 27, 27, 52, 172]
abbrev dktX4_formattedCharacter_1 : List UInt8 := dkwX4_formattedCharacter_1 ++ []
def dkwX4_formattedCharacter_0 : List UInt8 := [42, 3, 181, 0, 63, 27, 3, 42, 180, 1, 122, 4, 100, 184, 0, 84, 154, 0, 10, 42, 4, 181, 0, 63]
abbrev dktX4_formattedCharacter_0 : List UInt8 := dkwX4_formattedCharacter_0 ++ dktX4_formattedCharacter_1
theorem dksX4_formattedCharacter_0 : cX4_formattedCharacter.data.toList.drop 0 = dktX4_formattedCharacter_0 := by decide +kernel
theorem dksX4_formattedCharacter_1 : cX4_formattedCharacter.data.toList.drop 24 = dktX4_formattedCharacter_1 := dk_seg dksX4_formattedCharacter_0 24 rfl rfl
theorem dX4_formattedCharacter_0 : decode cX4_formattedCharacter 0 = .ok (.aload_n 0, 1) := dk_42 (dk_at dksX4_formattedCharacter_0 0 rfl rfl)
theorem dX4_formattedCharacter_1 : decode cX4_formattedCharacter 1 = .ok (.iconst 0, 1) := dk_3 (dk_at dksX4_formattedCharacter_0 1 rfl rfl)
theorem dX4_formattedCharacter_2 : decode cX4_formattedCharacter 2 = .ok (.putfield 63, 3) := dk_181 0 63 (dk_at dksX4_formattedCharacter_0 2 rfl rfl)
theorem dX4_formattedCharacter_5 : decode cX4_formattedCharacter 5 = .ok (.iload_n 1, 1) := dk_27 (dk_at dksX4_formattedCharacter_0 5 rfl rfl)
theorem dX4_formattedCharacter_6 : decode cX4_formattedCharacter 6 = .ok (.iconst 0, 1) := dk_3 (dk_at dksX4_formattedCharacter_0 6 rfl rfl)
theorem dX4_formattedCharacter_7 : decode cX4_formattedCharacter 7 = .ok (.aload_n 0, 1) := dk_42 (dk_at dksX4_formattedCharacter_0 7 rfl rfl)
theorem dX4_formattedCharacter_8 : decode cX4_formattedCharacter 8 = .ok (.getfield 378, 3) := dk_180 1 122 (dk_at dksX4_formattedCharacter_0 8 rfl rfl)
theorem dX4_formattedCharacter_11 : decode cX4_formattedCharacter 11 = .ok (.iconst 1, 1) := dk_4 (dk_at dksX4_formattedCharacter_0 11 rfl rfl)
theorem dX4_formattedCharacter_12 : decode cX4_formattedCharacter 12 = .ok (.isub, 1) := dk_100 (dk_at dksX4_formattedCharacter_0 12 rfl rfl)
theorem dX4_formattedCharacter_13 : decode cX4_formattedCharacter 13 = .ok (.invokestatic 84, 3) := dk_184 0 84 (dk_at dksX4_formattedCharacter_0 13 rfl rfl)
theorem dX4_formattedCharacter_16 : decode cX4_formattedCharacter 16 = .ok (.ifCond .ne 10, 3) := dk_154 0 10 (dk_at dksX4_formattedCharacter_0 16 rfl rfl)
theorem dX4_formattedCharacter_19 : decode cX4_formattedCharacter 19 = .ok (.aload_n 0, 1) := dk_42 (dk_at dksX4_formattedCharacter_0 19 rfl rfl)
theorem dX4_formattedCharacter_20 : decode cX4_formattedCharacter 20 = .ok (.iconst 1, 1) := dk_4 (dk_at dksX4_formattedCharacter_0 20 rfl rfl)
theorem dX4_formattedCharacter_21 : decode cX4_formattedCharacter 21 = .ok (.putfield 63, 3) := dk_181 0 63 (dk_at dksX4_formattedCharacter_0 21 rfl rfl)
theorem dX4_formattedCharacter_24 : decode cX4_formattedCharacter 24 = .ok (.iconst 0, 1) := dk_3 (dk_at dksX4_formattedCharacter_1 0 rfl rfl)
theorem dX4_formattedCharacter_25 : decode cX4_formattedCharacter 25 = .ok (.ireturn, 1) := dk_172 (dk_at dksX4_formattedCharacter_1 1 rfl rfl)
theorem dX4_formattedCharacter_26 : decode cX4_formattedCharacter 26 = .ok (.aload_n 0, 1) := dk_42 (dk_at dksX4_formattedCharacter_1 2 rfl rfl)
theorem dX4_formattedCharacter_27 : decode cX4_formattedCharacter 27 = .ok (.getfield 27, 3) := dk_180 0 27 (dk_at dksX4_formattedCharacter_1 3 rfl rfl)
theorem dX4_formattedCharacter_30 : decode cX4_formattedCharacter 30 = .ok (.iload_n 1, 1) := dk_27 (dk_at dksX4_formattedCharacter_1 6 rfl rfl)
theorem dX4_formattedCharacter_31 : decode cX4_formattedCharacter 31 = .ok (.caload, 1) := dk_52 (dk_at dksX4_formattedCharacter_1 7 rfl rfl)
theorem dX4_formattedCharacter_32 : decode cX4_formattedCharacter 32 = .ok (.ireturn, 1) := dk_172 (dk_at dksX4_formattedCharacter_1 8 rfl rfl)
theorem q131 : (Jvm.Cond.initialized "CameraMovesModel") ∈ lw_all := lw_g (lw_at lw_m1 24 rfl) rfl
theorem q1217 : (Jvm.Cond.selects "CameraMovesModel" ({ cls := "java/lang/Object", name := "getClass", desc := "()Ljava/lang/Class;" } : Jvm.MethodName) ({ cls := "java/lang/Object", name := "getClass", desc := "()Ljava/lang/Class;" } : Jvm.MethodName)) ∈ lw_all := lw_g (lw_at lw_m5 150 rfl) rfl
theorem q2014 : (Jvm.Cond.instantiable "CameraMovesModel" (36 : Nat)) ∈ lw_all := lw_g (lw_at lw_m8 227 rfl) rfl
theorem q2016 : (Jvm.Cond.instanceMethod ({ cls := "CameraMovesModel", name := "<init>", desc := "()V" } : Jvm.MethodName)) ∈ lw_all := lw_g (lw_at lw_m8 229 rfl) rfl
theorem q2017 : (Jvm.Cond.code ({ cls := "CameraMovesModel", name := "<init>", desc := "()V" } : Jvm.MethodName) prog_17_method_1_code (1 : Nat) (Option.none : Option Jvm.ClassFile.FieldType)) ∈ lw_all := lw_g (lw_at lw_m8 230 rfl) rfl
theorem q2018 : (Jvm.Cond.methodLink "CameraMovesModel" (1 : Nat) ({ cls := "java/lang/Object", name := "<init>", desc := "()V" } : Jvm.MethodName)) ∈ lw_all := lw_g (lw_at lw_m8 231 rfl) rfl
theorem q2019 : (Jvm.Cond.methodLink "CameraMovesModel" (57 : Nat) ({ cls := "CameraMovesModel", name := "beginReading", desc := "()V" } : Jvm.MethodName)) ∈ lw_all := lw_g (lw_at lw_m8 232 rfl) rfl
theorem q2020 : (Jvm.Cond.privateMethod ({ cls := "CameraMovesModel", name := "beginReading", desc := "()V" } : Jvm.MethodName)) ∈ lw_tbl := lw_at lw_m8 233 rfl
theorem q2021 : (Jvm.Cond.instanceMethod ({ cls := "CameraMovesModel", name := "beginReading", desc := "()V" } : Jvm.MethodName)) ∈ lw_all := lw_g (lw_at lw_m8 234 rfl) rfl
theorem q2022 : (Jvm.Cond.code ({ cls := "CameraMovesModel", name := "beginReading", desc := "()V" } : Jvm.MethodName) prog_17_method_34_code (2 : Nat) (Option.none : Option Jvm.ClassFile.FieldType)) ∈ lw_all := lw_g (lw_at lw_m8 235 rfl) rfl
theorem q2023 : (Jvm.Cond.methodLink "CameraMovesModel" (60 : Nat) ({ cls := "CameraMovesModel", name := "keepReading", desc := "()V" } : Jvm.MethodName)) ∈ lw_all := lw_g (lw_at lw_m8 236 rfl) rfl
theorem q2024 : (Jvm.Cond.privateMethod ({ cls := "CameraMovesModel", name := "keepReading", desc := "()V" } : Jvm.MethodName)) ∈ lw_tbl := lw_at lw_m8 237 rfl
theorem q2025 : (Jvm.Cond.instanceMethod ({ cls := "CameraMovesModel", name := "keepReading", desc := "()V" } : Jvm.MethodName)) ∈ lw_all := lw_g (lw_at lw_m8 238 rfl) rfl
theorem q2026 : (Jvm.Cond.code ({ cls := "CameraMovesModel", name := "keepReading", desc := "()V" } : Jvm.MethodName) prog_17_method_35_code (2 : Nat) (Option.none : Option Jvm.ClassFile.FieldType)) ∈ lw_all := lw_g (lw_at lw_m8 239 rfl) rfl
theorem q2027 : (Jvm.Cond.methodLink "CameraMovesModel" (169 : Nat) ({ cls := "CameraMovesModel", name := "copyRow", desc := "(II)V" } : Jvm.MethodName)) ∈ lw_all := lw_g (lw_at lw_m9 0 rfl) rfl
theorem q2028 : (Jvm.Cond.privateMethod ({ cls := "CameraMovesModel", name := "copyRow", desc := "(II)V" } : Jvm.MethodName)) ∈ lw_tbl := lw_at lw_m9 1 rfl
theorem q2029 : (Jvm.Cond.instanceMethod ({ cls := "CameraMovesModel", name := "copyRow", desc := "(II)V" } : Jvm.MethodName)) ∈ lw_all := lw_g (lw_at lw_m9 2 rfl) rfl
theorem q2030 : (Jvm.Cond.code ({ cls := "CameraMovesModel", name := "copyRow", desc := "(II)V" } : Jvm.MethodName) prog_17_method_105_code (4 : Nat) (Option.none : Option Jvm.ClassFile.FieldType)) ∈ lw_all := lw_g (lw_at lw_m9 3 rfl) rfl
theorem q2031 : (Jvm.Cond.fieldLink "CameraMovesModel" (63 : Nat) "CameraMovesModel" "thrown" "I") ∈ lw_all := lw_g (lw_at lw_m9 4 rfl) rfl
theorem q2032 : (Jvm.Cond.fieldLink "CameraMovesModel" (7 : Nat) "CameraMovesModel" "rows" "[I") ∈ lw_all := lw_g (lw_at lw_m9 5 rfl) rfl
theorem q2033 : (Jvm.Cond.fieldLink "CameraMovesModel" (66 : Nat) "CameraMovesModel" "at" "I") ∈ lw_all := lw_g (lw_at lw_m9 6 rfl) rfl
theorem q2034 : (Jvm.Cond.fieldLink "CameraMovesModel" (172 : Nat) "CameraMovesModel" "edits" "I") ∈ lw_all := lw_g (lw_at lw_m9 7 rfl) rfl
theorem q2035 : (Jvm.Cond.fieldLink "CameraMovesModel" (175 : Nat) "CameraMovesModel" "firstEdit" "I") ∈ lw_all := lw_g (lw_at lw_m9 8 rfl) rfl
theorem q2036 : (Jvm.Cond.fieldLink "CameraMovesModel" (81 : Nat) "CameraMovesModel" "axes" "I") ∈ lw_all := lw_g (lw_at lw_m9 9 rfl) rfl
theorem q2037 : (Jvm.Cond.fieldLink "CameraMovesModel" (13 : Nat) "CameraMovesModel" "names" "[J") ∈ lw_all := lw_g (lw_at lw_m9 10 rfl) rfl
theorem q2038 : (Jvm.Cond.fieldLink "CameraMovesModel" (17 : Nat) "CameraMovesModel" "axisRow" "[I") ∈ lw_all := lw_g (lw_at lw_m9 11 rfl) rfl
theorem q2039 : (Jvm.Cond.fieldLink "CameraMovesModel" (92 : Nat) "CameraMovesModel" "passes" "I") ∈ lw_all := lw_g (lw_at lw_m9 12 rfl) rfl
theorem q2040 : (Jvm.Cond.fieldLink "CameraMovesModel" (20 : Nat) "CameraMovesModel" "passRow" "[I") ∈ lw_all := lw_g (lw_at lw_m9 13 rfl) rfl
theorem q2041 : (Jvm.Cond.fieldLink "CameraMovesModel" (23 : Nat) "CameraMovesModel" "buffer" "[B") ∈ lw_all := lw_g (lw_at lw_m9 14 rfl) rfl
theorem q2042 : (Jvm.Cond.fieldLink "CameraMovesModel" (95 : Nat) "CameraMovesModel" "buffered" "I") ∈ lw_all := lw_g (lw_at lw_m9 15 rfl) rfl
theorem q2043 : (Jvm.Cond.fieldLink "CameraMovesModel" (53 : Nat) "CameraMovesModel" "errorOffset" "I") ∈ lw_all := lw_g (lw_at lw_m9 16 rfl) rfl
theorem q2044 : (Jvm.Cond.fieldLink "CameraMovesModel" (27 : Nat) "CameraMovesModel" "formatted" "[C") ∈ lw_all := lw_g (lw_at lw_m9 17 rfl) rfl
theorem q2045 : (Jvm.Cond.fieldLink "CameraMovesModel" (378 : Nat) "CameraMovesModel" "formattedLength" "I") ∈ lw_all := lw_g (lw_at lw_m9 18 rfl) rfl
theorem q2046 : (Jvm.Cond.fieldLink "CameraMovesModel" (105 : Nat) "CameraMovesModel" "textLength" "I") ∈ lw_all := lw_g (lw_at lw_m9 19 rfl) rfl
theorem q2047 : (Jvm.Cond.fieldLink "CameraMovesModel" (115 : Nat) "CameraMovesModel" "next" "I") ∈ lw_all := lw_g (lw_at lw_m9 20 rfl) rfl
theorem q2048 : (Jvm.Cond.fieldLink "CameraMovesModel" (138 : Nat) "CameraMovesModel" "tokenAt" "I") ∈ lw_all := lw_g (lw_at lw_m9 21 rfl) rfl
theorem q2049 : (Jvm.Cond.fieldLink "CameraMovesModel" (126 : Nat) "CameraMovesModel" "token" "I") ∈ lw_all := lw_g (lw_at lw_m9 22 rfl) rfl
theorem q2050 : (Jvm.Cond.fieldLink "CameraMovesModel" (129 : Nat) "CameraMovesModel" "number" "I") ∈ lw_all := lw_g (lw_at lw_m9 23 rfl) rfl
theorem q2051 : (Jvm.Cond.fieldLink "CameraMovesModel" (111 : Nat) "CameraMovesModel" "word" "J") ∈ lw_all := lw_g (lw_at lw_m9 24 rfl) rfl
theorem q2052 : (Jvm.Cond.fieldLink "CameraMovesModel" (147 : Nat) "CameraMovesModel" "wrongAt" "I") ∈ lw_all := lw_g (lw_at lw_m9 25 rfl) rfl
theorem q2053 : (Jvm.Cond.fieldLink "CameraMovesModel" (163 : Nat) "CameraMovesModel" "newAxes" "I") ∈ lw_all := lw_g (lw_at lw_m9 26 rfl) rfl
theorem q2054 : (Jvm.Cond.fieldLink "CameraMovesModel" (31 : Nat) "CameraMovesModel" "newNames" "[J") ∈ lw_all := lw_g (lw_at lw_m9 27 rfl) rfl
theorem q2055 : (Jvm.Cond.fieldLink "CameraMovesModel" (34 : Nat) "CameraMovesModel" "newAxisRow" "[I") ∈ lw_all := lw_g (lw_at lw_m9 28 rfl) rfl
theorem q2056 : (Jvm.Cond.fieldLink "CameraMovesModel" (166 : Nat) "CameraMovesModel" "newPasses" "I") ∈ lw_all := lw_g (lw_at lw_m9 29 rfl) rfl
theorem q2057 : (Jvm.Cond.fieldLink "CameraMovesModel" (37 : Nat) "CameraMovesModel" "newPassRow" "[I") ∈ lw_all := lw_g (lw_at lw_m9 30 rfl) rfl
theorem q2058 : (Jvm.Cond.fieldLink "CameraMovesModel" (258 : Nat) "CameraMovesModel" "peak" "I") ∈ lw_all := lw_g (lw_at lw_m9 31 rfl) rfl
theorem q2059 : (Jvm.Cond.fieldLink "CameraMovesModel" (261 : Nat) "CameraMovesModel" "excess" "I") ∈ lw_all := lw_g (lw_at lw_m9 32 rfl) rfl
theorem q2060 : (Jvm.Cond.fieldLink "CameraMovesModel" (249 : Nat) "CameraMovesModel" "rampNow" "I") ∈ lw_all := lw_g (lw_at lw_m9 33 rfl) rfl
theorem q2061 : (Jvm.Cond.fieldLink "CameraMovesModel" (252 : Nat) "CameraMovesModel" "framesNow" "I") ∈ lw_all := lw_g (lw_at lw_m9 34 rfl) rfl
theorem q2062 : (Jvm.Cond.fieldLink "CameraMovesModel" (255 : Nat) "CameraMovesModel" "sign" "I") ∈ lw_all := lw_g (lw_at lw_m9 35 rfl) rfl
theorem q2063 : (Jvm.Cond.fieldLink "CameraMovesModel" (40 : Nat) "CameraMovesModel" "status" "[I") ∈ lw_all := lw_g (lw_at lw_m9 36 rfl) rfl
theorem q2064 : (Jvm.Cond.fieldLink "CameraMovesModel" (43 : Nat) "CameraMovesModel" "distance" "[I") ∈ lw_all := lw_g (lw_at lw_m9 37 rfl) rfl
theorem q2065 : (Jvm.Cond.fieldLink "CameraMovesModel" (46 : Nat) "CameraMovesModel" "isTaken" "[Z") ∈ lw_all := lw_g (lw_at lw_m9 38 rfl) rfl
theorem q2066 : (Jvm.Cond.fieldLink "CameraMovesModel" (50 : Nat) "CameraMovesModel" "places" "[I") ∈ lw_all := lw_g (lw_at lw_m9 39 rfl) rfl
theorem q2067 : (Jvm.Cond.lays "CameraMovesModel" "CameraMovesModel" "thrown" "I") ∈ lw_all := lw_g (lw_at lw_m9 40 rfl) rfl
theorem q2068 : (Jvm.Cond.soleField "CameraMovesModel" "thrown") ∈ lw_all := lw_g (lw_at lw_m9 41 rfl) rfl
theorem q2069 : (Jvm.Cond.laysFinal "CameraMovesModel" "CameraMovesModel" "rows" "[I") ∈ lw_all := lw_g (lw_at lw_m9 42 rfl) rfl
theorem q2070 : (Jvm.Cond.soleField "CameraMovesModel" "rows") ∈ lw_all := lw_g (lw_at lw_m9 43 rfl) rfl
theorem q2071 : (Jvm.Cond.lays "CameraMovesModel" "CameraMovesModel" "at" "I") ∈ lw_all := lw_g (lw_at lw_m9 44 rfl) rfl
theorem q2072 : (Jvm.Cond.soleField "CameraMovesModel" "at") ∈ lw_all := lw_g (lw_at lw_m9 45 rfl) rfl
theorem q2073 : (Jvm.Cond.lays "CameraMovesModel" "CameraMovesModel" "edits" "I") ∈ lw_all := lw_g (lw_at lw_m9 46 rfl) rfl
theorem q2074 : (Jvm.Cond.soleField "CameraMovesModel" "edits") ∈ lw_all := lw_g (lw_at lw_m9 47 rfl) rfl
theorem q2075 : (Jvm.Cond.lays "CameraMovesModel" "CameraMovesModel" "firstEdit" "I") ∈ lw_all := lw_g (lw_at lw_m9 48 rfl) rfl
theorem q2076 : (Jvm.Cond.soleField "CameraMovesModel" "firstEdit") ∈ lw_all := lw_g (lw_at lw_m9 49 rfl) rfl
theorem q2077 : (Jvm.Cond.lays "CameraMovesModel" "CameraMovesModel" "axes" "I") ∈ lw_all := lw_g (lw_at lw_m9 50 rfl) rfl
theorem q2078 : (Jvm.Cond.soleField "CameraMovesModel" "axes") ∈ lw_all := lw_g (lw_at lw_m9 51 rfl) rfl
theorem q2079 : (Jvm.Cond.laysFinal "CameraMovesModel" "CameraMovesModel" "names" "[J") ∈ lw_all := lw_g (lw_at lw_m9 52 rfl) rfl
theorem q2080 : (Jvm.Cond.soleField "CameraMovesModel" "names") ∈ lw_all := lw_g (lw_at lw_m9 53 rfl) rfl
theorem q2081 : (Jvm.Cond.laysFinal "CameraMovesModel" "CameraMovesModel" "axisRow" "[I") ∈ lw_all := lw_g (lw_at lw_m9 54 rfl) rfl
theorem q2082 : (Jvm.Cond.soleField "CameraMovesModel" "axisRow") ∈ lw_all := lw_g (lw_at lw_m9 55 rfl) rfl
theorem q2083 : (Jvm.Cond.lays "CameraMovesModel" "CameraMovesModel" "passes" "I") ∈ lw_all := lw_g (lw_at lw_m9 56 rfl) rfl
theorem q2084 : (Jvm.Cond.soleField "CameraMovesModel" "passes") ∈ lw_all := lw_g (lw_at lw_m9 57 rfl) rfl
theorem q2085 : (Jvm.Cond.laysFinal "CameraMovesModel" "CameraMovesModel" "passRow" "[I") ∈ lw_all := lw_g (lw_at lw_m9 58 rfl) rfl
theorem q2086 : (Jvm.Cond.soleField "CameraMovesModel" "passRow") ∈ lw_all := lw_g (lw_at lw_m9 59 rfl) rfl
theorem q2087 : (Jvm.Cond.laysFinal "CameraMovesModel" "CameraMovesModel" "buffer" "[B") ∈ lw_all := lw_g (lw_at lw_m9 60 rfl) rfl
theorem q2088 : (Jvm.Cond.soleField "CameraMovesModel" "buffer") ∈ lw_all := lw_g (lw_at lw_m9 61 rfl) rfl
theorem q2089 : (Jvm.Cond.lays "CameraMovesModel" "CameraMovesModel" "buffered" "I") ∈ lw_all := lw_g (lw_at lw_m9 62 rfl) rfl
theorem q2090 : (Jvm.Cond.soleField "CameraMovesModel" "buffered") ∈ lw_all := lw_g (lw_at lw_m9 63 rfl) rfl
theorem q2091 : (Jvm.Cond.lays "CameraMovesModel" "CameraMovesModel" "errorOffset" "I") ∈ lw_all := lw_g (lw_at lw_m9 64 rfl) rfl
theorem q2092 : (Jvm.Cond.soleField "CameraMovesModel" "errorOffset") ∈ lw_all := lw_g (lw_at lw_m9 65 rfl) rfl
theorem q2093 : (Jvm.Cond.laysFinal "CameraMovesModel" "CameraMovesModel" "formatted" "[C") ∈ lw_all := lw_g (lw_at lw_m9 66 rfl) rfl
theorem q2094 : (Jvm.Cond.soleField "CameraMovesModel" "formatted") ∈ lw_all := lw_g (lw_at lw_m9 67 rfl) rfl
theorem q2095 : (Jvm.Cond.lays "CameraMovesModel" "CameraMovesModel" "formattedLength" "I") ∈ lw_all := lw_g (lw_at lw_m9 68 rfl) rfl
theorem q2096 : (Jvm.Cond.soleField "CameraMovesModel" "formattedLength") ∈ lw_all := lw_g (lw_at lw_m9 69 rfl) rfl
theorem q2097 : (Jvm.Cond.lays "CameraMovesModel" "CameraMovesModel" "textLength" "I") ∈ lw_all := lw_g (lw_at lw_m9 70 rfl) rfl
theorem q2098 : (Jvm.Cond.soleField "CameraMovesModel" "textLength") ∈ lw_all := lw_g (lw_at lw_m9 71 rfl) rfl
theorem q2099 : (Jvm.Cond.lays "CameraMovesModel" "CameraMovesModel" "next" "I") ∈ lw_all := lw_g (lw_at lw_m9 72 rfl) rfl
theorem q2100 : (Jvm.Cond.soleField "CameraMovesModel" "next") ∈ lw_all := lw_g (lw_at lw_m9 73 rfl) rfl
theorem q2101 : (Jvm.Cond.lays "CameraMovesModel" "CameraMovesModel" "tokenAt" "I") ∈ lw_all := lw_g (lw_at lw_m9 74 rfl) rfl
theorem q2102 : (Jvm.Cond.soleField "CameraMovesModel" "tokenAt") ∈ lw_all := lw_g (lw_at lw_m9 75 rfl) rfl
theorem q2103 : (Jvm.Cond.lays "CameraMovesModel" "CameraMovesModel" "token" "I") ∈ lw_all := lw_g (lw_at lw_m9 76 rfl) rfl
theorem q2104 : (Jvm.Cond.soleField "CameraMovesModel" "token") ∈ lw_all := lw_g (lw_at lw_m9 77 rfl) rfl
theorem q2105 : (Jvm.Cond.lays "CameraMovesModel" "CameraMovesModel" "number" "I") ∈ lw_all := lw_g (lw_at lw_m9 78 rfl) rfl
theorem q2106 : (Jvm.Cond.soleField "CameraMovesModel" "number") ∈ lw_all := lw_g (lw_at lw_m9 79 rfl) rfl
theorem q2107 : (Jvm.Cond.lays "CameraMovesModel" "CameraMovesModel" "word" "J") ∈ lw_all := lw_g (lw_at lw_m9 80 rfl) rfl
theorem q2108 : (Jvm.Cond.soleField "CameraMovesModel" "word") ∈ lw_all := lw_g (lw_at lw_m9 81 rfl) rfl
theorem q2109 : (Jvm.Cond.lays "CameraMovesModel" "CameraMovesModel" "wrongAt" "I") ∈ lw_all := lw_g (lw_at lw_m9 82 rfl) rfl
theorem q2110 : (Jvm.Cond.soleField "CameraMovesModel" "wrongAt") ∈ lw_all := lw_g (lw_at lw_m9 83 rfl) rfl
theorem q2111 : (Jvm.Cond.lays "CameraMovesModel" "CameraMovesModel" "newAxes" "I") ∈ lw_all := lw_g (lw_at lw_m9 84 rfl) rfl
theorem q2112 : (Jvm.Cond.soleField "CameraMovesModel" "newAxes") ∈ lw_all := lw_g (lw_at lw_m9 85 rfl) rfl
theorem q2113 : (Jvm.Cond.laysFinal "CameraMovesModel" "CameraMovesModel" "newNames" "[J") ∈ lw_all := lw_g (lw_at lw_m9 86 rfl) rfl
theorem q2114 : (Jvm.Cond.soleField "CameraMovesModel" "newNames") ∈ lw_all := lw_g (lw_at lw_m9 87 rfl) rfl
theorem q2115 : (Jvm.Cond.laysFinal "CameraMovesModel" "CameraMovesModel" "newAxisRow" "[I") ∈ lw_all := lw_g (lw_at lw_m9 88 rfl) rfl
theorem q2116 : (Jvm.Cond.soleField "CameraMovesModel" "newAxisRow") ∈ lw_all := lw_g (lw_at lw_m9 89 rfl) rfl
theorem q2117 : (Jvm.Cond.lays "CameraMovesModel" "CameraMovesModel" "newPasses" "I") ∈ lw_all := lw_g (lw_at lw_m9 90 rfl) rfl
theorem q2118 : (Jvm.Cond.soleField "CameraMovesModel" "newPasses") ∈ lw_all := lw_g (lw_at lw_m9 91 rfl) rfl
theorem q2119 : (Jvm.Cond.laysFinal "CameraMovesModel" "CameraMovesModel" "newPassRow" "[I") ∈ lw_all := lw_g (lw_at lw_m9 92 rfl) rfl
theorem q2120 : (Jvm.Cond.soleField "CameraMovesModel" "newPassRow") ∈ lw_all := lw_g (lw_at lw_m9 93 rfl) rfl
theorem q2121 : (Jvm.Cond.lays "CameraMovesModel" "CameraMovesModel" "peak" "I") ∈ lw_all := lw_g (lw_at lw_m9 94 rfl) rfl
theorem q2122 : (Jvm.Cond.soleField "CameraMovesModel" "peak") ∈ lw_all := lw_g (lw_at lw_m9 95 rfl) rfl
theorem q2123 : (Jvm.Cond.lays "CameraMovesModel" "CameraMovesModel" "excess" "I") ∈ lw_all := lw_g (lw_at lw_m9 96 rfl) rfl
theorem q2124 : (Jvm.Cond.soleField "CameraMovesModel" "excess") ∈ lw_all := lw_g (lw_at lw_m9 97 rfl) rfl
theorem q2125 : (Jvm.Cond.lays "CameraMovesModel" "CameraMovesModel" "rampNow" "I") ∈ lw_all := lw_g (lw_at lw_m9 98 rfl) rfl
theorem q2126 : (Jvm.Cond.soleField "CameraMovesModel" "rampNow") ∈ lw_all := lw_g (lw_at lw_m9 99 rfl) rfl
theorem q2127 : (Jvm.Cond.lays "CameraMovesModel" "CameraMovesModel" "framesNow" "I") ∈ lw_all := lw_g (lw_at lw_m9 100 rfl) rfl
theorem q2128 : (Jvm.Cond.soleField "CameraMovesModel" "framesNow") ∈ lw_all := lw_g (lw_at lw_m9 101 rfl) rfl
theorem q2129 : (Jvm.Cond.lays "CameraMovesModel" "CameraMovesModel" "sign" "I") ∈ lw_all := lw_g (lw_at lw_m9 102 rfl) rfl
theorem q2130 : (Jvm.Cond.soleField "CameraMovesModel" "sign") ∈ lw_all := lw_g (lw_at lw_m9 103 rfl) rfl
theorem q2131 : (Jvm.Cond.laysFinal "CameraMovesModel" "CameraMovesModel" "status" "[I") ∈ lw_all := lw_g (lw_at lw_m9 104 rfl) rfl
theorem q2132 : (Jvm.Cond.soleField "CameraMovesModel" "status") ∈ lw_all := lw_g (lw_at lw_m9 105 rfl) rfl
theorem q2133 : (Jvm.Cond.laysFinal "CameraMovesModel" "CameraMovesModel" "distance" "[I") ∈ lw_all := lw_g (lw_at lw_m9 106 rfl) rfl
theorem q2134 : (Jvm.Cond.soleField "CameraMovesModel" "distance") ∈ lw_all := lw_g (lw_at lw_m9 107 rfl) rfl
theorem q2135 : (Jvm.Cond.laysFinal "CameraMovesModel" "CameraMovesModel" "isTaken" "[Z") ∈ lw_all := lw_g (lw_at lw_m9 108 rfl) rfl
theorem q2136 : (Jvm.Cond.soleField "CameraMovesModel" "isTaken") ∈ lw_all := lw_g (lw_at lw_m9 109 rfl) rfl
theorem q2137 : (Jvm.Cond.laysFinal "CameraMovesModel" "CameraMovesModel" "places" "[I") ∈ lw_all := lw_g (lw_at lw_m9 110 rfl) rfl
theorem q2138 : (Jvm.Cond.soleField "CameraMovesModel" "places") ∈ lw_all := lw_g (lw_at lw_m9 111 rfl) rfl
theorem q2139 : (Jvm.Cond.superclass "CameraMovesModel" "java/lang/Object") ∈ lw_all := lw_g (lw_at lw_m9 112 rfl) rfl
theorem q2144 : (Jvm.Cond.instanceMethod ({ cls := "CameraMovesModel", name := "thrown", desc := "()I" } : Jvm.MethodName)) ∈ lw_all := lw_g (lw_at lw_m9 117 rfl) rfl
theorem q2145 : (Jvm.Cond.selects "CameraMovesModel" ({ cls := "CameraMovesModel", name := "thrown", desc := "()I" } : Jvm.MethodName) ({ cls := "CameraMovesModel", name := "thrown", desc := "()I" } : Jvm.MethodName)) ∈ lw_all := lw_g (lw_at lw_m9 118 rfl) rfl
theorem q2146 : (Jvm.Cond.code ({ cls := "CameraMovesModel", name := "thrown", desc := "()I" } : Jvm.MethodName) prog_17_method_2_code (1 : Nat) (Option.some Jvm.ClassFile.FieldType.int)) ∈ lw_all := lw_g (lw_at lw_m9 119 rfl) rfl
theorem q2148 : (Jvm.Cond.instanceMethod ({ cls := "CameraMovesModel", name := "append", desc := "(IIIII)I" } : Jvm.MethodName)) ∈ lw_all := lw_g (lw_at lw_m9 121 rfl) rfl
theorem q2149 : (Jvm.Cond.selects "CameraMovesModel" ({ cls := "CameraMovesModel", name := "append", desc := "(IIIII)I" } : Jvm.MethodName) ({ cls := "CameraMovesModel", name := "append", desc := "(IIIII)I" } : Jvm.MethodName)) ∈ lw_all := lw_g (lw_at lw_m9 122 rfl) rfl
theorem q2150 : (Jvm.Cond.code ({ cls := "CameraMovesModel", name := "append", desc := "(IIIII)I" } : Jvm.MethodName) prog_17_method_19_code (6 : Nat) (Option.some Jvm.ClassFile.FieldType.int)) ∈ lw_all := lw_g (lw_at lw_m9 123 rfl) rfl
theorem q2151 : (Jvm.Cond.methodLink "CameraMovesModel" (98 : Nat) ({ cls := "CameraMovesModel", name := "fails", desc := "(I)I" } : Jvm.MethodName)) ∈ lw_all := lw_g (lw_at lw_m9 124 rfl) rfl
theorem q2152 : (Jvm.Cond.privateMethod ({ cls := "CameraMovesModel", name := "fails", desc := "(I)I" } : Jvm.MethodName)) ∈ lw_tbl := lw_at lw_m9 125 rfl
theorem q2153 : (Jvm.Cond.instanceMethod ({ cls := "CameraMovesModel", name := "fails", desc := "(I)I" } : Jvm.MethodName)) ∈ lw_all := lw_g (lw_at lw_m9 126 rfl) rfl
theorem q2154 : (Jvm.Cond.code ({ cls := "CameraMovesModel", name := "fails", desc := "(I)I" } : Jvm.MethodName) prog_17_method_3_code (2 : Nat) (Option.some Jvm.ClassFile.FieldType.int)) ∈ lw_all := lw_g (lw_at lw_m9 127 rfl) rfl
theorem q2155 : (Jvm.Cond.methodLink "CameraMovesModel" (101 : Nat) ({ cls := "CameraMovesModel", name := "put", desc := "(I)V" } : Jvm.MethodName)) ∈ lw_all := lw_g (lw_at lw_m9 128 rfl) rfl
theorem q2156 : (Jvm.Cond.privateMethod ({ cls := "CameraMovesModel", name := "put", desc := "(I)V" } : Jvm.MethodName)) ∈ lw_tbl := lw_at lw_m9 129 rfl
theorem q2157 : (Jvm.Cond.instanceMethod ({ cls := "CameraMovesModel", name := "put", desc := "(I)V" } : Jvm.MethodName)) ∈ lw_all := lw_g (lw_at lw_m9 130 rfl) rfl
theorem q2158 : (Jvm.Cond.code ({ cls := "CameraMovesModel", name := "put", desc := "(I)V" } : Jvm.MethodName) prog_17_method_18_code (2 : Nat) (Option.none : Option Jvm.ClassFile.FieldType)) ∈ lw_all := lw_g (lw_at lw_m9 131 rfl) rfl
theorem q2160 : (Jvm.Cond.instanceMethod ({ cls := "CameraMovesModel", name := "truncate", desc := "(I)V" } : Jvm.MethodName)) ∈ lw_all := lw_g (lw_at lw_m9 133 rfl) rfl
theorem q2161 : (Jvm.Cond.selects "CameraMovesModel" ({ cls := "CameraMovesModel", name := "truncate", desc := "(I)V" } : Jvm.MethodName) ({ cls := "CameraMovesModel", name := "truncate", desc := "(I)V" } : Jvm.MethodName)) ∈ lw_all := lw_g (lw_at lw_m9 134 rfl) rfl
theorem q2162 : (Jvm.Cond.code ({ cls := "CameraMovesModel", name := "truncate", desc := "(I)V" } : Jvm.MethodName) prog_17_method_20_code (2 : Nat) (Option.none : Option Jvm.ClassFile.FieldType)) ∈ lw_all := lw_g (lw_at lw_m9 135 rfl) rfl
theorem q2163 : (Jvm.Cond.methodLink "CameraMovesModel" (84 : Nat) ({ cls := "CameraMovesModel", name := "isIn", desc := "(III)Z" } : Jvm.MethodName)) ∈ lw_all := lw_g (lw_at lw_m9 136 rfl) rfl
theorem q2164 : (Jvm.Cond.static ({ cls := "CameraMovesModel", name := "isIn", desc := "(III)Z" } : Jvm.MethodName)) ∈ lw_all := lw_g (lw_at lw_m9 137 rfl) rfl
theorem q2165 : (Jvm.Cond.code ({ cls := "CameraMovesModel", name := "isIn", desc := "(III)Z" } : Jvm.MethodName) prog_17_method_4_code (3 : Nat) (Option.some Jvm.ClassFile.FieldType.boolean)) ∈ lw_all := lw_g (lw_at lw_m9 138 rfl) rfl
theorem q2167 : (Jvm.Cond.instanceMethod ({ cls := "CameraMovesModel", name := "load", desc := "()I" } : Jvm.MethodName)) ∈ lw_all := lw_g (lw_at lw_m9 140 rfl) rfl
theorem q2168 : (Jvm.Cond.selects "CameraMovesModel" ({ cls := "CameraMovesModel", name := "load", desc := "()I" } : Jvm.MethodName) ({ cls := "CameraMovesModel", name := "load", desc := "()I" } : Jvm.MethodName)) ∈ lw_all := lw_g (lw_at lw_m9 141 rfl) rfl
theorem q2169 : (Jvm.Cond.code ({ cls := "CameraMovesModel", name := "load", desc := "()I" } : Jvm.MethodName) prog_17_method_45_code (1 : Nat) (Option.some Jvm.ClassFile.FieldType.int)) ∈ lw_all := lw_g (lw_at lw_m9 142 rfl) rfl
theorem q2170 : (Jvm.Cond.methodLink "CameraMovesModel" (154 : Nat) ({ cls := "CameraMovesModel", name := "readToken", desc := "()V" } : Jvm.MethodName)) ∈ lw_all := lw_g (lw_at lw_m9 143 rfl) rfl
theorem q2171 : (Jvm.Cond.privateMethod ({ cls := "CameraMovesModel", name := "readToken", desc := "()V" } : Jvm.MethodName)) ∈ lw_tbl := lw_at lw_m9 144 rfl
theorem q2172 : (Jvm.Cond.instanceMethod ({ cls := "CameraMovesModel", name := "readToken", desc := "()V" } : Jvm.MethodName)) ∈ lw_all := lw_g (lw_at lw_m9 145 rfl) rfl
theorem q2173 : (Jvm.Cond.code ({ cls := "CameraMovesModel", name := "readToken", desc := "()V" } : Jvm.MethodName) prog_17_method_27_code (1 : Nat) (Option.none : Option Jvm.ClassFile.FieldType)) ∈ lw_all := lw_g (lw_at lw_m9 146 rfl) rfl
theorem q2174 : (Jvm.Cond.methodLink "CameraMovesModel" (135 : Nat) ({ cls := "CameraMovesModel", name := "isBlank", desc := "(I)Z" } : Jvm.MethodName)) ∈ lw_all := lw_g (lw_at lw_m9 147 rfl) rfl
theorem q2175 : (Jvm.Cond.privateMethod ({ cls := "CameraMovesModel", name := "isBlank", desc := "(I)Z" } : Jvm.MethodName)) ∈ lw_tbl := lw_at lw_m9 148 rfl
theorem q2176 : (Jvm.Cond.instanceMethod ({ cls := "CameraMovesModel", name := "isBlank", desc := "(I)Z" } : Jvm.MethodName)) ∈ lw_all := lw_g (lw_at lw_m9 149 rfl) rfl
theorem q2177 : (Jvm.Cond.code ({ cls := "CameraMovesModel", name := "isBlank", desc := "(I)Z" } : Jvm.MethodName) prog_17_method_24_code (2 : Nat) (Option.some Jvm.ClassFile.FieldType.boolean)) ∈ lw_all := lw_g (lw_at lw_m9 150 rfl) rfl
theorem q2178 : (Jvm.Cond.methodLink "CameraMovesModel" (108 : Nat) ({ cls := "CameraMovesModel", name := "byteAt", desc := "(I)I" } : Jvm.MethodName)) ∈ lw_all := lw_g (lw_at lw_m9 151 rfl) rfl
theorem q2179 : (Jvm.Cond.privateMethod ({ cls := "CameraMovesModel", name := "byteAt", desc := "(I)I" } : Jvm.MethodName)) ∈ lw_tbl := lw_at lw_m9 152 rfl
theorem q2180 : (Jvm.Cond.instanceMethod ({ cls := "CameraMovesModel", name := "byteAt", desc := "(I)I" } : Jvm.MethodName)) ∈ lw_all := lw_g (lw_at lw_m9 153 rfl) rfl
theorem q2181 : (Jvm.Cond.code ({ cls := "CameraMovesModel", name := "byteAt", desc := "(I)I" } : Jvm.MethodName) prog_17_method_21_code (2 : Nat) (Option.some Jvm.ClassFile.FieldType.int)) ∈ lw_all := lw_g (lw_at lw_m9 154 rfl) rfl
theorem q2182 : (Jvm.Cond.methodLink "CameraMovesModel" (118 : Nat) ({ cls := "CameraMovesModel", name := "isLetter", desc := "(I)Z" } : Jvm.MethodName)) ∈ lw_all := lw_g (lw_at lw_m9 155 rfl) rfl
theorem q2183 : (Jvm.Cond.privateMethod ({ cls := "CameraMovesModel", name := "isLetter", desc := "(I)Z" } : Jvm.MethodName)) ∈ lw_tbl := lw_at lw_m9 156 rfl
theorem q2184 : (Jvm.Cond.instanceMethod ({ cls := "CameraMovesModel", name := "isLetter", desc := "(I)Z" } : Jvm.MethodName)) ∈ lw_all := lw_g (lw_at lw_m9 157 rfl) rfl
theorem q2185 : (Jvm.Cond.code ({ cls := "CameraMovesModel", name := "isLetter", desc := "(I)Z" } : Jvm.MethodName) prog_17_method_22_code (2 : Nat) (Option.some Jvm.ClassFile.FieldType.boolean)) ∈ lw_all := lw_g (lw_at lw_m9 158 rfl) rfl
theorem q2186 : (Jvm.Cond.methodLink "CameraMovesModel" (141 : Nat) ({ cls := "CameraMovesModel", name := "readWord", desc := "()V" } : Jvm.MethodName)) ∈ lw_all := lw_g (lw_at lw_m9 159 rfl) rfl
theorem q2187 : (Jvm.Cond.privateMethod ({ cls := "CameraMovesModel", name := "readWord", desc := "()V" } : Jvm.MethodName)) ∈ lw_tbl := lw_at lw_m9 160 rfl
theorem q2188 : (Jvm.Cond.instanceMethod ({ cls := "CameraMovesModel", name := "readWord", desc := "()V" } : Jvm.MethodName)) ∈ lw_all := lw_g (lw_at lw_m9 161 rfl) rfl
theorem q2189 : (Jvm.Cond.code ({ cls := "CameraMovesModel", name := "readWord", desc := "()V" } : Jvm.MethodName) prog_17_method_25_code (2 : Nat) (Option.none : Option Jvm.ClassFile.FieldType)) ∈ lw_all := lw_g (lw_at lw_m9 162 rfl) rfl
theorem q2190 : (Jvm.Cond.constantLong "CameraMovesModel" (122 : Nat) (32 : Int64)) ∈ lw_all := lw_g (lw_at lw_m9 163 rfl) rfl
theorem q2191 : (Jvm.Cond.constantLong "CameraMovesModel" (124 : Nat) (97 : Int64)) ∈ lw_all := lw_g (lw_at lw_m9 164 rfl) rfl
theorem q2192 : (Jvm.Cond.methodLink "CameraMovesModel" (132 : Nat) ({ cls := "CameraMovesModel", name := "isDigit", desc := "(I)Z" } : Jvm.MethodName)) ∈ lw_all := lw_g (lw_at lw_m9 165 rfl) rfl
theorem q2193 : (Jvm.Cond.privateMethod ({ cls := "CameraMovesModel", name := "isDigit", desc := "(I)Z" } : Jvm.MethodName)) ∈ lw_tbl := lw_at lw_m9 166 rfl
theorem q2194 : (Jvm.Cond.instanceMethod ({ cls := "CameraMovesModel", name := "isDigit", desc := "(I)Z" } : Jvm.MethodName)) ∈ lw_all := lw_g (lw_at lw_m9 167 rfl) rfl
theorem q2195 : (Jvm.Cond.code ({ cls := "CameraMovesModel", name := "isDigit", desc := "(I)Z" } : Jvm.MethodName) prog_17_method_23_code (2 : Nat) (Option.some Jvm.ClassFile.FieldType.boolean)) ∈ lw_all := lw_g (lw_at lw_m9 168 rfl) rfl
theorem q2196 : (Jvm.Cond.methodLink "CameraMovesModel" (144 : Nat) ({ cls := "CameraMovesModel", name := "readNumber", desc := "()V" } : Jvm.MethodName)) ∈ lw_all := lw_g (lw_at lw_m9 169 rfl) rfl
theorem q2197 : (Jvm.Cond.privateMethod ({ cls := "CameraMovesModel", name := "readNumber", desc := "()V" } : Jvm.MethodName)) ∈ lw_tbl := lw_at lw_m9 170 rfl
theorem q2198 : (Jvm.Cond.instanceMethod ({ cls := "CameraMovesModel", name := "readNumber", desc := "()V" } : Jvm.MethodName)) ∈ lw_all := lw_g (lw_at lw_m9 171 rfl) rfl
theorem q2199 : (Jvm.Cond.code ({ cls := "CameraMovesModel", name := "readNumber", desc := "()V" } : Jvm.MethodName) prog_17_method_26_code (2 : Nat) (Option.none : Option Jvm.ClassFile.FieldType)) ∈ lw_all := lw_g (lw_at lw_m9 172 rfl) rfl
theorem q2200 : (Jvm.Cond.methodLink "CameraMovesModel" (150 : Nat) ({ cls := "CameraMovesModel", name := "isWell", desc := "()Z" } : Jvm.MethodName)) ∈ lw_all := lw_g (lw_at lw_m9 173 rfl) rfl
theorem q2201 : (Jvm.Cond.privateMethod ({ cls := "CameraMovesModel", name := "isWell", desc := "()Z" } : Jvm.MethodName)) ∈ lw_tbl := lw_at lw_m9 174 rfl
theorem q2202 : (Jvm.Cond.instanceMethod ({ cls := "CameraMovesModel", name := "isWell", desc := "()Z" } : Jvm.MethodName)) ∈ lw_all := lw_g (lw_at lw_m9 175 rfl) rfl
theorem q2203 : (Jvm.Cond.code ({ cls := "CameraMovesModel", name := "isWell", desc := "()Z" } : Jvm.MethodName) prog_17_method_28_code (1 : Nat) (Option.some Jvm.ClassFile.FieldType.boolean)) ∈ lw_all := lw_g (lw_at lw_m9 176 rfl) rfl
theorem q2204 : (Jvm.Cond.methodLink "CameraMovesModel" (217 : Nat) ({ cls := "CameraMovesModel", name := "readStatement", desc := "()V" } : Jvm.MethodName)) ∈ lw_all := lw_g (lw_at lw_m9 177 rfl) rfl
theorem q2205 : (Jvm.Cond.privateMethod ({ cls := "CameraMovesModel", name := "readStatement", desc := "()V" } : Jvm.MethodName)) ∈ lw_tbl := lw_at lw_m9 178 rfl
theorem q2206 : (Jvm.Cond.instanceMethod ({ cls := "CameraMovesModel", name := "readStatement", desc := "()V" } : Jvm.MethodName)) ∈ lw_all := lw_g (lw_at lw_m9 179 rfl) rfl
theorem q2207 : (Jvm.Cond.code ({ cls := "CameraMovesModel", name := "readStatement", desc := "()V" } : Jvm.MethodName) prog_17_method_44_code (1 : Nat) (Option.none : Option Jvm.ClassFile.FieldType)) ∈ lw_all := lw_g (lw_at lw_m9 180 rfl) rfl
theorem q2208 : (Jvm.Cond.methodLink "CameraMovesModel" (197 : Nat) ({ cls := "CameraMovesModel", name := "spelled", desc := "(IIIIIII)J" } : Jvm.MethodName)) ∈ lw_all := lw_g (lw_at lw_m9 181 rfl) rfl
theorem q2209 : (Jvm.Cond.static ({ cls := "CameraMovesModel", name := "spelled", desc := "(IIIIIII)J" } : Jvm.MethodName)) ∈ lw_all := lw_g (lw_at lw_m9 182 rfl) rfl
theorem q2210 : (Jvm.Cond.code ({ cls := "CameraMovesModel", name := "spelled", desc := "(IIIIIII)J" } : Jvm.MethodName) prog_17_method_32_code (9 : Nat) (Option.some Jvm.ClassFile.FieldType.long)) ∈ lw_all := lw_g (lw_at lw_m9 183 rfl) rfl
theorem q2211 : (Jvm.Cond.methodLink "CameraMovesModel" (159 : Nat) ({ cls := "CameraMovesModel", name := "more", desc := "(JI)J" } : Jvm.MethodName)) ∈ lw_all := lw_g (lw_at lw_m9 184 rfl) rfl
theorem q2212 : (Jvm.Cond.static ({ cls := "CameraMovesModel", name := "more", desc := "(JI)J" } : Jvm.MethodName)) ∈ lw_all := lw_g (lw_at lw_m9 185 rfl) rfl
theorem q2213 : (Jvm.Cond.code ({ cls := "CameraMovesModel", name := "more", desc := "(JI)J" } : Jvm.MethodName) prog_17_method_31_code (3 : Nat) (Option.some Jvm.ClassFile.FieldType.long)) ∈ lw_all := lw_g (lw_at lw_m9 186 rfl) rfl
theorem q2214 : (Jvm.Cond.constantLong "CameraMovesModel" (157 : Nat) (96 : Int64)) ∈ lw_all := lw_g (lw_at lw_m9 187 rfl) rfl
theorem q2215 : (Jvm.Cond.methodLink "CameraMovesModel" (201 : Nat) ({ cls := "CameraMovesModel", name := "isWord", desc := "(J)Z" } : Jvm.MethodName)) ∈ lw_all := lw_g (lw_at lw_m9 188 rfl) rfl
theorem q2216 : (Jvm.Cond.privateMethod ({ cls := "CameraMovesModel", name := "isWord", desc := "(J)Z" } : Jvm.MethodName)) ∈ lw_tbl := lw_at lw_m9 189 rfl
theorem q2217 : (Jvm.Cond.instanceMethod ({ cls := "CameraMovesModel", name := "isWord", desc := "(J)Z" } : Jvm.MethodName)) ∈ lw_all := lw_g (lw_at lw_m9 190 rfl) rfl
theorem q2218 : (Jvm.Cond.code ({ cls := "CameraMovesModel", name := "isWord", desc := "(J)Z" } : Jvm.MethodName) prog_17_method_33_code (3 : Nat) (Option.some Jvm.ClassFile.FieldType.boolean)) ∈ lw_all := lw_g (lw_at lw_m9 191 rfl) rfl
theorem q2219 : (Jvm.Cond.methodLink "CameraMovesModel" (205 : Nat) ({ cls := "CameraMovesModel", name := "readAxis", desc := "()V" } : Jvm.MethodName)) ∈ lw_all := lw_g (lw_at lw_m9 192 rfl) rfl
theorem q2220 : (Jvm.Cond.privateMethod ({ cls := "CameraMovesModel", name := "readAxis", desc := "()V" } : Jvm.MethodName)) ∈ lw_tbl := lw_at lw_m9 193 rfl
theorem q2221 : (Jvm.Cond.instanceMethod ({ cls := "CameraMovesModel", name := "readAxis", desc := "()V" } : Jvm.MethodName)) ∈ lw_all := lw_g (lw_at lw_m9 194 rfl) rfl
theorem q2222 : (Jvm.Cond.code ({ cls := "CameraMovesModel", name := "readAxis", desc := "()V" } : Jvm.MethodName) prog_17_method_39_code (7 : Nat) (Option.none : Option Jvm.ClassFile.FieldType)) ∈ lw_all := lw_g (lw_at lw_m9 195 rfl) rfl
theorem q2223 : (Jvm.Cond.methodLink "CameraMovesModel" (178 : Nat) ({ cls := "CameraMovesModel", name := "must", desc := "(Z)V" } : Jvm.MethodName)) ∈ lw_all := lw_g (lw_at lw_m9 196 rfl) rfl
theorem q2224 : (Jvm.Cond.privateMethod ({ cls := "CameraMovesModel", name := "must", desc := "(Z)V" } : Jvm.MethodName)) ∈ lw_tbl := lw_at lw_m9 197 rfl
theorem q2225 : (Jvm.Cond.instanceMethod ({ cls := "CameraMovesModel", name := "must", desc := "(Z)V" } : Jvm.MethodName)) ∈ lw_all := lw_g (lw_at lw_m9 198 rfl) rfl
theorem q2226 : (Jvm.Cond.code ({ cls := "CameraMovesModel", name := "must", desc := "(Z)V" } : Jvm.MethodName) prog_17_method_29_code (2 : Nat) (Option.none : Option Jvm.ClassFile.FieldType)) ∈ lw_all := lw_g (lw_at lw_m9 199 rfl) rfl
theorem q2227 : (Jvm.Cond.methodLink "CameraMovesModel" (182 : Nat) ({ cls := "CameraMovesModel", name := "goesOn", desc := "()V" } : Jvm.MethodName)) ∈ lw_all := lw_g (lw_at lw_m9 200 rfl) rfl
theorem q2228 : (Jvm.Cond.privateMethod ({ cls := "CameraMovesModel", name := "goesOn", desc := "()V" } : Jvm.MethodName)) ∈ lw_tbl := lw_at lw_m9 201 rfl
theorem q2229 : (Jvm.Cond.instanceMethod ({ cls := "CameraMovesModel", name := "goesOn", desc := "()V" } : Jvm.MethodName)) ∈ lw_all := lw_g (lw_at lw_m9 202 rfl) rfl
theorem q2230 : (Jvm.Cond.code ({ cls := "CameraMovesModel", name := "goesOn", desc := "()V" } : Jvm.MethodName) prog_17_method_30_code (1 : Nat) (Option.none : Option Jvm.ClassFile.FieldType)) ∈ lw_all := lw_g (lw_at lw_m9 203 rfl) rfl
theorem q2231 : (Jvm.Cond.methodLink "CameraMovesModel" (185 : Nat) ({ cls := "CameraMovesModel", name := "axisHere", desc := "()I" } : Jvm.MethodName)) ∈ lw_all := lw_g (lw_at lw_m9 204 rfl) rfl
theorem q2232 : (Jvm.Cond.privateMethod ({ cls := "CameraMovesModel", name := "axisHere", desc := "()I" } : Jvm.MethodName)) ∈ lw_tbl := lw_at lw_m9 205 rfl
theorem q2233 : (Jvm.Cond.instanceMethod ({ cls := "CameraMovesModel", name := "axisHere", desc := "()I" } : Jvm.MethodName)) ∈ lw_all := lw_g (lw_at lw_m9 206 rfl) rfl
theorem q2234 : (Jvm.Cond.code ({ cls := "CameraMovesModel", name := "axisHere", desc := "()I" } : Jvm.MethodName) prog_17_method_38_code (2 : Nat) (Option.some Jvm.ClassFile.FieldType.int)) ∈ lw_all := lw_g (lw_at lw_m9 207 rfl) rfl
theorem q2235 : (Jvm.Cond.methodLink "CameraMovesModel" (188 : Nat) ({ cls := "CameraMovesModel", name := "readSigned", desc := "(II)I" } : Jvm.MethodName)) ∈ lw_all := lw_g (lw_at lw_m9 208 rfl) rfl
theorem q2236 : (Jvm.Cond.privateMethod ({ cls := "CameraMovesModel", name := "readSigned", desc := "(II)I" } : Jvm.MethodName)) ∈ lw_tbl := lw_at lw_m9 209 rfl
theorem q2237 : (Jvm.Cond.instanceMethod ({ cls := "CameraMovesModel", name := "readSigned", desc := "(II)I" } : Jvm.MethodName)) ∈ lw_all := lw_g (lw_at lw_m9 210 rfl) rfl
theorem q2238 : (Jvm.Cond.code ({ cls := "CameraMovesModel", name := "readSigned", desc := "(II)I" } : Jvm.MethodName) prog_17_method_37_code (5 : Nat) (Option.some Jvm.ClassFile.FieldType.int)) ∈ lw_all := lw_g (lw_at lw_m9 211 rfl) rfl
theorem q2239 : (Jvm.Cond.methodLink "CameraMovesModel" (191 : Nat) ({ cls := "CameraMovesModel", name := "readValue", desc := "(II)I" } : Jvm.MethodName)) ∈ lw_all := lw_g (lw_at lw_m9 212 rfl) rfl
theorem q2240 : (Jvm.Cond.privateMethod ({ cls := "CameraMovesModel", name := "readValue", desc := "(II)I" } : Jvm.MethodName)) ∈ lw_tbl := lw_at lw_m9 213 rfl
theorem q2241 : (Jvm.Cond.instanceMethod ({ cls := "CameraMovesModel", name := "readValue", desc := "(II)I" } : Jvm.MethodName)) ∈ lw_all := lw_g (lw_at lw_m9 214 rfl) rfl
theorem q2242 : (Jvm.Cond.code ({ cls := "CameraMovesModel", name := "readValue", desc := "(II)I" } : Jvm.MethodName) prog_17_method_36_code (4 : Nat) (Option.some Jvm.ClassFile.FieldType.int)) ∈ lw_all := lw_g (lw_at lw_m9 215 rfl) rfl
theorem q2243 : (Jvm.Cond.methodLink "CameraMovesModel" (208 : Nat) ({ cls := "CameraMovesModel", name := "readCue", desc := "()V" } : Jvm.MethodName)) ∈ lw_all := lw_g (lw_at lw_m9 216 rfl) rfl
theorem q2244 : (Jvm.Cond.privateMethod ({ cls := "CameraMovesModel", name := "readCue", desc := "()V" } : Jvm.MethodName)) ∈ lw_tbl := lw_at lw_m9 217 rfl
theorem q2245 : (Jvm.Cond.instanceMethod ({ cls := "CameraMovesModel", name := "readCue", desc := "()V" } : Jvm.MethodName)) ∈ lw_all := lw_g (lw_at lw_m9 218 rfl) rfl
theorem q2246 : (Jvm.Cond.code ({ cls := "CameraMovesModel", name := "readCue", desc := "()V" } : Jvm.MethodName) prog_17_method_41_code (3 : Nat) (Option.none : Option Jvm.ClassFile.FieldType)) ∈ lw_all := lw_g (lw_at lw_m9 219 rfl) rfl
theorem q2247 : (Jvm.Cond.methodLink "CameraMovesModel" (194 : Nat) ({ cls := "CameraMovesModel", name := "readTarget", desc := "(I)V" } : Jvm.MethodName)) ∈ lw_all := lw_g (lw_at lw_m9 220 rfl) rfl
theorem q2248 : (Jvm.Cond.privateMethod ({ cls := "CameraMovesModel", name := "readTarget", desc := "(I)V" } : Jvm.MethodName)) ∈ lw_tbl := lw_at lw_m9 221 rfl
theorem q2249 : (Jvm.Cond.instanceMethod ({ cls := "CameraMovesModel", name := "readTarget", desc := "(I)V" } : Jvm.MethodName)) ∈ lw_all := lw_g (lw_at lw_m9 222 rfl) rfl
theorem q2250 : (Jvm.Cond.code ({ cls := "CameraMovesModel", name := "readTarget", desc := "(I)V" } : Jvm.MethodName) prog_17_method_40_code (4 : Nat) (Option.none : Option Jvm.ClassFile.FieldType)) ∈ lw_all := lw_g (lw_at lw_m9 223 rfl) rfl
theorem q2251 : (Jvm.Cond.methodLink "CameraMovesModel" (211 : Nat) ({ cls := "CameraMovesModel", name := "readWall", desc := "()V" } : Jvm.MethodName)) ∈ lw_all := lw_g (lw_at lw_m9 224 rfl) rfl
theorem q2252 : (Jvm.Cond.privateMethod ({ cls := "CameraMovesModel", name := "readWall", desc := "()V" } : Jvm.MethodName)) ∈ lw_tbl := lw_at lw_m9 225 rfl
theorem q2253 : (Jvm.Cond.instanceMethod ({ cls := "CameraMovesModel", name := "readWall", desc := "()V" } : Jvm.MethodName)) ∈ lw_all := lw_g (lw_at lw_m9 226 rfl) rfl
theorem q2254 : (Jvm.Cond.code ({ cls := "CameraMovesModel", name := "readWall", desc := "()V" } : Jvm.MethodName) prog_17_method_42_code (5 : Nat) (Option.none : Option Jvm.ClassFile.FieldType)) ∈ lw_all := lw_g (lw_at lw_m9 227 rfl) rfl
theorem q2255 : (Jvm.Cond.methodLink "CameraMovesModel" (214 : Nat) ({ cls := "CameraMovesModel", name := "readPass", desc := "()V" } : Jvm.MethodName)) ∈ lw_all := lw_g (lw_at lw_m9 228 rfl) rfl
theorem q2256 : (Jvm.Cond.privateMethod ({ cls := "CameraMovesModel", name := "readPass", desc := "()V" } : Jvm.MethodName)) ∈ lw_tbl := lw_at lw_m9 229 rfl
theorem q2257 : (Jvm.Cond.instanceMethod ({ cls := "CameraMovesModel", name := "readPass", desc := "()V" } : Jvm.MethodName)) ∈ lw_all := lw_g (lw_at lw_m9 230 rfl) rfl
theorem q2258 : (Jvm.Cond.code ({ cls := "CameraMovesModel", name := "readPass", desc := "()V" } : Jvm.MethodName) prog_17_method_43_code (4 : Nat) (Option.none : Option Jvm.ClassFile.FieldType)) ∈ lw_all := lw_g (lw_at lw_m9 231 rfl) rfl
theorem q2259 : (Jvm.Cond.methodLink "CameraMovesModel" (88 : Nat) ({ cls := "CameraMovesModel", name := "cueMany", desc := "()I" } : Jvm.MethodName)) ∈ lw_all := lw_g (lw_at lw_m9 232 rfl) rfl
theorem q2260 : (Jvm.Cond.privateMethod ({ cls := "CameraMovesModel", name := "cueMany", desc := "()I" } : Jvm.MethodName)) ∈ lw_tbl := lw_at lw_m9 233 rfl
theorem q2261 : (Jvm.Cond.instanceMethod ({ cls := "CameraMovesModel", name := "cueMany", desc := "()I" } : Jvm.MethodName)) ∈ lw_all := lw_g (lw_at lw_m9 234 rfl) rfl
theorem q2262 : (Jvm.Cond.code ({ cls := "CameraMovesModel", name := "cueMany", desc := "()I" } : Jvm.MethodName) prog_17_method_8_code (1 : Nat) (Option.some Jvm.ClassFile.FieldType.int)) ∈ lw_all := lw_g (lw_at lw_m9 235 rfl) rfl
theorem q2263 : (Jvm.Cond.methodLink "CameraMovesModel" (69 : Nat) ({ cls := "CameraMovesModel", name := "get", desc := "(I)I" } : Jvm.MethodName)) ∈ lw_all := lw_g (lw_at lw_m9 236 rfl) rfl
theorem q2264 : (Jvm.Cond.privateMethod ({ cls := "CameraMovesModel", name := "get", desc := "(I)I" } : Jvm.MethodName)) ∈ lw_tbl := lw_at lw_m9 237 rfl
theorem q2265 : (Jvm.Cond.instanceMethod ({ cls := "CameraMovesModel", name := "get", desc := "(I)I" } : Jvm.MethodName)) ∈ lw_all := lw_g (lw_at lw_m9 238 rfl) rfl
theorem q2266 : (Jvm.Cond.code ({ cls := "CameraMovesModel", name := "get", desc := "(I)I" } : Jvm.MethodName) prog_17_method_6_code (2 : Nat) (Option.some Jvm.ClassFile.FieldType.int)) ∈ lw_all := lw_g (lw_at lw_m9 239 rfl) rfl
theorem q2268 : (Jvm.Cond.instanceMethod ({ cls := "CameraMovesModel", name := "errorOffset", desc := "()I" } : Jvm.MethodName)) ∈ lw_all := lw_g (lw_at lw_m10 1 rfl) rfl
theorem q2269 : (Jvm.Cond.selects "CameraMovesModel" ({ cls := "CameraMovesModel", name := "errorOffset", desc := "()I" } : Jvm.MethodName) ({ cls := "CameraMovesModel", name := "errorOffset", desc := "()I" } : Jvm.MethodName)) ∈ lw_all := lw_g (lw_at lw_m10 2 rfl) rfl
theorem q2270 : (Jvm.Cond.code ({ cls := "CameraMovesModel", name := "errorOffset", desc := "()I" } : Jvm.MethodName) prog_17_method_46_code (1 : Nat) (Option.some Jvm.ClassFile.FieldType.int)) ∈ lw_all := lw_g (lw_at lw_m10 3 rfl) rfl
theorem q2272 : (Jvm.Cond.instanceMethod ({ cls := "CameraMovesModel", name := "count", desc := "(I)I" } : Jvm.MethodName)) ∈ lw_all := lw_g (lw_at lw_m10 5 rfl) rfl
theorem q2273 : (Jvm.Cond.selects "CameraMovesModel" ({ cls := "CameraMovesModel", name := "count", desc := "(I)I" } : Jvm.MethodName) ({ cls := "CameraMovesModel", name := "count", desc := "(I)I" } : Jvm.MethodName)) ∈ lw_all := lw_g (lw_at lw_m10 6 rfl) rfl
theorem q2274 : (Jvm.Cond.code ({ cls := "CameraMovesModel", name := "count", desc := "(I)I" } : Jvm.MethodName) prog_17_method_47_code (2 : Nat) (Option.some Jvm.ClassFile.FieldType.int)) ∈ lw_all := lw_g (lw_at lw_m10 7 rfl) rfl
theorem q2276 : (Jvm.Cond.instanceMethod ({ cls := "CameraMovesModel", name := "limit", desc := "(II)I" } : Jvm.MethodName)) ∈ lw_all := lw_g (lw_at lw_m10 9 rfl) rfl
theorem q2277 : (Jvm.Cond.selects "CameraMovesModel" ({ cls := "CameraMovesModel", name := "limit", desc := "(II)I" } : Jvm.MethodName) ({ cls := "CameraMovesModel", name := "limit", desc := "(II)I" } : Jvm.MethodName)) ∈ lw_all := lw_g (lw_at lw_m10 10 rfl) rfl
theorem q2278 : (Jvm.Cond.code ({ cls := "CameraMovesModel", name := "limit", desc := "(II)I" } : Jvm.MethodName) prog_17_method_50_code (3 : Nat) (Option.some Jvm.ClassFile.FieldType.int)) ∈ lw_all := lw_g (lw_at lw_m10 11 rfl) rfl
theorem q2279 : (Jvm.Cond.methodLink "CameraMovesModel" (220 : Nat) ({ cls := "CameraMovesModel", name := "isAxis", desc := "(I)Z" } : Jvm.MethodName)) ∈ lw_all := lw_g (lw_at lw_m10 12 rfl) rfl
theorem q2280 : (Jvm.Cond.privateMethod ({ cls := "CameraMovesModel", name := "isAxis", desc := "(I)Z" } : Jvm.MethodName)) ∈ lw_tbl := lw_at lw_m10 13 rfl
theorem q2281 : (Jvm.Cond.instanceMethod ({ cls := "CameraMovesModel", name := "isAxis", desc := "(I)Z" } : Jvm.MethodName)) ∈ lw_all := lw_g (lw_at lw_m10 14 rfl) rfl
theorem q2282 : (Jvm.Cond.code ({ cls := "CameraMovesModel", name := "isAxis", desc := "(I)Z" } : Jvm.MethodName) prog_17_method_12_code (2 : Nat) (Option.some Jvm.ClassFile.FieldType.boolean)) ∈ lw_all := lw_g (lw_at lw_m10 15 rfl) rfl
theorem q2283 : (Jvm.Cond.methodLink "CameraMovesModel" (223 : Nat) ({ cls := "CameraMovesModel", name := "low", desc := "(I)I" } : Jvm.MethodName)) ∈ lw_all := lw_g (lw_at lw_m10 16 rfl) rfl
theorem q2284 : (Jvm.Cond.privateMethod ({ cls := "CameraMovesModel", name := "low", desc := "(I)I" } : Jvm.MethodName)) ∈ lw_tbl := lw_at lw_m10 17 rfl
theorem q2285 : (Jvm.Cond.instanceMethod ({ cls := "CameraMovesModel", name := "low", desc := "(I)I" } : Jvm.MethodName)) ∈ lw_all := lw_g (lw_at lw_m10 18 rfl) rfl
theorem q2286 : (Jvm.Cond.code ({ cls := "CameraMovesModel", name := "low", desc := "(I)I" } : Jvm.MethodName) prog_17_method_48_code (2 : Nat) (Option.some Jvm.ClassFile.FieldType.int)) ∈ lw_all := lw_g (lw_at lw_m10 19 rfl) rfl
theorem q2287 : (Jvm.Cond.methodLink "CameraMovesModel" (226 : Nat) ({ cls := "CameraMovesModel", name := "high", desc := "(I)I" } : Jvm.MethodName)) ∈ lw_all := lw_g (lw_at lw_m10 20 rfl) rfl
theorem q2288 : (Jvm.Cond.privateMethod ({ cls := "CameraMovesModel", name := "high", desc := "(I)I" } : Jvm.MethodName)) ∈ lw_tbl := lw_at lw_m10 21 rfl
theorem q2289 : (Jvm.Cond.instanceMethod ({ cls := "CameraMovesModel", name := "high", desc := "(I)I" } : Jvm.MethodName)) ∈ lw_all := lw_g (lw_at lw_m10 22 rfl) rfl
theorem q2290 : (Jvm.Cond.code ({ cls := "CameraMovesModel", name := "high", desc := "(I)I" } : Jvm.MethodName) prog_17_method_49_code (2 : Nat) (Option.some Jvm.ClassFile.FieldType.int)) ∈ lw_all := lw_g (lw_at lw_m10 23 rfl) rfl
theorem q2292 : (Jvm.Cond.instanceMethod ({ cls := "CameraMovesModel", name := "cueFrame", desc := "(I)I" } : Jvm.MethodName)) ∈ lw_all := lw_g (lw_at lw_m10 25 rfl) rfl
theorem q2293 : (Jvm.Cond.selects "CameraMovesModel" ({ cls := "CameraMovesModel", name := "cueFrame", desc := "(I)I" } : Jvm.MethodName) ({ cls := "CameraMovesModel", name := "cueFrame", desc := "(I)I" } : Jvm.MethodName)) ∈ lw_all := lw_g (lw_at lw_m10 26 rfl) rfl
theorem q2294 : (Jvm.Cond.code ({ cls := "CameraMovesModel", name := "cueFrame", desc := "(I)I" } : Jvm.MethodName) prog_17_method_51_code (2 : Nat) (Option.some Jvm.ClassFile.FieldType.int)) ∈ lw_all := lw_g (lw_at lw_m10 27 rfl) rfl
theorem q2295 : (Jvm.Cond.methodLink "CameraMovesModel" (229 : Nat) ({ cls := "CameraMovesModel", name := "isCue", desc := "(I)Z" } : Jvm.MethodName)) ∈ lw_all := lw_g (lw_at lw_m10 28 rfl) rfl
theorem q2296 : (Jvm.Cond.privateMethod ({ cls := "CameraMovesModel", name := "isCue", desc := "(I)Z" } : Jvm.MethodName)) ∈ lw_tbl := lw_at lw_m10 29 rfl
theorem q2297 : (Jvm.Cond.instanceMethod ({ cls := "CameraMovesModel", name := "isCue", desc := "(I)Z" } : Jvm.MethodName)) ∈ lw_all := lw_g (lw_at lw_m10 30 rfl) rfl
theorem q2298 : (Jvm.Cond.code ({ cls := "CameraMovesModel", name := "isCue", desc := "(I)Z" } : Jvm.MethodName) prog_17_method_13_code (2 : Nat) (Option.some Jvm.ClassFile.FieldType.boolean)) ∈ lw_all := lw_g (lw_at lw_m10 31 rfl) rfl
theorem q2299 : (Jvm.Cond.methodLink "CameraMovesModel" (77 : Nat) ({ cls := "CameraMovesModel", name := "of", desc := "(II)I" } : Jvm.MethodName)) ∈ lw_all := lw_g (lw_at lw_m10 32 rfl) rfl
theorem q2300 : (Jvm.Cond.privateMethod ({ cls := "CameraMovesModel", name := "of", desc := "(II)I" } : Jvm.MethodName)) ∈ lw_tbl := lw_at lw_m10 33 rfl
theorem q2301 : (Jvm.Cond.instanceMethod ({ cls := "CameraMovesModel", name := "of", desc := "(II)I" } : Jvm.MethodName)) ∈ lw_all := lw_g (lw_at lw_m10 34 rfl) rfl
theorem q2302 : (Jvm.Cond.code ({ cls := "CameraMovesModel", name := "of", desc := "(II)I" } : Jvm.MethodName) prog_17_method_9_code (3 : Nat) (Option.some Jvm.ClassFile.FieldType.int)) ∈ lw_all := lw_g (lw_at lw_m10 35 rfl) rfl
theorem q2304 : (Jvm.Cond.instanceMethod ({ cls := "CameraMovesModel", name := "cueLength", desc := "(I)I" } : Jvm.MethodName)) ∈ lw_all := lw_g (lw_at lw_m10 37 rfl) rfl
theorem q2305 : (Jvm.Cond.selects "CameraMovesModel" ({ cls := "CameraMovesModel", name := "cueLength", desc := "(I)I" } : Jvm.MethodName) ({ cls := "CameraMovesModel", name := "cueLength", desc := "(I)I" } : Jvm.MethodName)) ∈ lw_all := lw_g (lw_at lw_m10 38 rfl) rfl
theorem q2306 : (Jvm.Cond.code ({ cls := "CameraMovesModel", name := "cueLength", desc := "(I)I" } : Jvm.MethodName) prog_17_method_52_code (2 : Nat) (Option.some Jvm.ClassFile.FieldType.int)) ∈ lw_all := lw_g (lw_at lw_m10 39 rfl) rfl
theorem q2308 : (Jvm.Cond.instanceMethod ({ cls := "CameraMovesModel", name := "target", desc := "(II)I" } : Jvm.MethodName)) ∈ lw_all := lw_g (lw_at lw_m10 41 rfl) rfl
theorem q2309 : (Jvm.Cond.selects "CameraMovesModel" ({ cls := "CameraMovesModel", name := "target", desc := "(II)I" } : Jvm.MethodName) ({ cls := "CameraMovesModel", name := "target", desc := "(II)I" } : Jvm.MethodName)) ∈ lw_all := lw_g (lw_at lw_m10 42 rfl) rfl
theorem q2310 : (Jvm.Cond.code ({ cls := "CameraMovesModel", name := "target", desc := "(II)I" } : Jvm.MethodName) prog_17_method_54_code (3 : Nat) (Option.some Jvm.ClassFile.FieldType.int)) ∈ lw_all := lw_g (lw_at lw_m10 43 rfl) rfl
theorem q2311 : (Jvm.Cond.methodLink "CameraMovesModel" (236 : Nat) ({ cls := "CameraMovesModel", name := "isTold", desc := "(II)Z" } : Jvm.MethodName)) ∈ lw_all := lw_g (lw_at lw_m10 44 rfl) rfl
theorem q2312 : (Jvm.Cond.privateMethod ({ cls := "CameraMovesModel", name := "isTold", desc := "(II)Z" } : Jvm.MethodName)) ∈ lw_tbl := lw_at lw_m10 45 rfl
theorem q2313 : (Jvm.Cond.instanceMethod ({ cls := "CameraMovesModel", name := "isTold", desc := "(II)Z" } : Jvm.MethodName)) ∈ lw_all := lw_g (lw_at lw_m10 46 rfl) rfl
theorem q2314 : (Jvm.Cond.code ({ cls := "CameraMovesModel", name := "isTold", desc := "(II)Z" } : Jvm.MethodName) prog_17_method_53_code (3 : Nat) (Option.some Jvm.ClassFile.FieldType.boolean)) ∈ lw_all := lw_g (lw_at lw_m10 47 rfl) rfl
theorem q2315 : (Jvm.Cond.methodLink "CameraMovesModel" (232 : Nat) ({ cls := "CameraMovesModel", name := "has", desc := "(II)Z" } : Jvm.MethodName)) ∈ lw_all := lw_g (lw_at lw_m10 48 rfl) rfl
theorem q2316 : (Jvm.Cond.privateMethod ({ cls := "CameraMovesModel", name := "has", desc := "(II)Z" } : Jvm.MethodName)) ∈ lw_tbl := lw_at lw_m10 49 rfl
theorem q2317 : (Jvm.Cond.instanceMethod ({ cls := "CameraMovesModel", name := "has", desc := "(II)Z" } : Jvm.MethodName)) ∈ lw_all := lw_g (lw_at lw_m10 50 rfl) rfl
theorem q2318 : (Jvm.Cond.code ({ cls := "CameraMovesModel", name := "has", desc := "(II)Z" } : Jvm.MethodName) prog_17_method_11_code (3 : Nat) (Option.some Jvm.ClassFile.FieldType.boolean)) ∈ lw_all := lw_g (lw_at lw_m10 51 rfl) rfl
theorem q2320 : (Jvm.Cond.instanceMethod ({ cls := "CameraMovesModel", name := "leastFrames", desc := "(II)I" } : Jvm.MethodName)) ∈ lw_all := lw_g (lw_at lw_m10 53 rfl) rfl
theorem q2321 : (Jvm.Cond.selects "CameraMovesModel" ({ cls := "CameraMovesModel", name := "leastFrames", desc := "(II)I" } : Jvm.MethodName) ({ cls := "CameraMovesModel", name := "leastFrames", desc := "(II)I" } : Jvm.MethodName)) ∈ lw_all := lw_g (lw_at lw_m10 54 rfl) rfl
theorem q2322 : (Jvm.Cond.code ({ cls := "CameraMovesModel", name := "leastFrames", desc := "(II)I" } : Jvm.MethodName) prog_17_method_62_code (3 : Nat) (Option.some Jvm.ClassFile.FieldType.int)) ∈ lw_all := lw_g (lw_at lw_m10 55 rfl) rfl
theorem q2323 : (Jvm.Cond.methodLink "CameraMovesModel" (270 : Nat) ({ cls := "CameraMovesModel", name := "leastOf", desc := "(II)I" } : Jvm.MethodName)) ∈ lw_all := lw_g (lw_at lw_m10 56 rfl) rfl
theorem q2324 : (Jvm.Cond.privateMethod ({ cls := "CameraMovesModel", name := "leastOf", desc := "(II)I" } : Jvm.MethodName)) ∈ lw_tbl := lw_at lw_m10 57 rfl
theorem q2325 : (Jvm.Cond.instanceMethod ({ cls := "CameraMovesModel", name := "leastOf", desc := "(II)I" } : Jvm.MethodName)) ∈ lw_all := lw_g (lw_at lw_m10 58 rfl) rfl
theorem q2326 : (Jvm.Cond.code ({ cls := "CameraMovesModel", name := "leastOf", desc := "(II)I" } : Jvm.MethodName) prog_17_method_57_code (7 : Nat) (Option.some Jvm.ClassFile.FieldType.int)) ∈ lw_all := lw_g (lw_at lw_m10 59 rfl) rfl
theorem q2327 : (Jvm.Cond.methodLink "CameraMovesModel" (243 : Nat) ({ cls := "CameraMovesModel", name := "plain", desc := "(I)I" } : Jvm.MethodName)) ∈ lw_all := lw_g (lw_at lw_m10 60 rfl) rfl
theorem q2328 : (Jvm.Cond.static ({ cls := "CameraMovesModel", name := "plain", desc := "(I)I" } : Jvm.MethodName)) ∈ lw_all := lw_g (lw_at lw_m10 61 rfl) rfl
theorem q2329 : (Jvm.Cond.code ({ cls := "CameraMovesModel", name := "plain", desc := "(I)I" } : Jvm.MethodName) prog_17_method_5_code (1 : Nat) (Option.some Jvm.ClassFile.FieldType.int)) ∈ lw_all := lw_g (lw_at lw_m10 62 rfl) rfl
theorem q2330 : (Jvm.Cond.methodLink "CameraMovesModel" (246 : Nat) ({ cls := "CameraMovesModel", name := "sumIn", desc := "(II)I" } : Jvm.MethodName)) ∈ lw_all := lw_g (lw_at lw_m10 63 rfl) rfl
theorem q2331 : (Jvm.Cond.privateMethod ({ cls := "CameraMovesModel", name := "sumIn", desc := "(II)I" } : Jvm.MethodName)) ∈ lw_tbl := lw_at lw_m10 64 rfl
theorem q2332 : (Jvm.Cond.instanceMethod ({ cls := "CameraMovesModel", name := "sumIn", desc := "(II)I" } : Jvm.MethodName)) ∈ lw_all := lw_g (lw_at lw_m10 65 rfl) rfl
theorem q2333 : (Jvm.Cond.code ({ cls := "CameraMovesModel", name := "sumIn", desc := "(II)I" } : Jvm.MethodName) prog_17_method_56_code (3 : Nat) (Option.some Jvm.ClassFile.FieldType.int)) ∈ lw_all := lw_g (lw_at lw_m10 66 rfl) rfl
theorem q2334 : (Jvm.Cond.methodLink "CameraMovesModel" (239 : Nat) ({ cls := "CameraMovesModel", name := "sumOf", desc := "(III)I" } : Jvm.MethodName)) ∈ lw_all := lw_g (lw_at lw_m10 67 rfl) rfl
theorem q2335 : (Jvm.Cond.static ({ cls := "CameraMovesModel", name := "sumOf", desc := "(III)I" } : Jvm.MethodName)) ∈ lw_all := lw_g (lw_at lw_m10 68 rfl) rfl
theorem q2336 : (Jvm.Cond.code ({ cls := "CameraMovesModel", name := "sumOf", desc := "(III)I" } : Jvm.MethodName) prog_17_method_55_code (7 : Nat) (Option.some Jvm.ClassFile.FieldType.int)) ∈ lw_all := lw_g (lw_at lw_m10 69 rfl) rfl
theorem q2338 : (Jvm.Cond.instanceMethod ({ cls := "CameraMovesModel", name := "rampSpeed", desc := "(IIII)I" } : Jvm.MethodName)) ∈ lw_all := lw_g (lw_at lw_m10 71 rfl) rfl
theorem q2339 : (Jvm.Cond.selects "CameraMovesModel" ({ cls := "CameraMovesModel", name := "rampSpeed", desc := "(IIII)I" } : Jvm.MethodName) ({ cls := "CameraMovesModel", name := "rampSpeed", desc := "(IIII)I" } : Jvm.MethodName)) ∈ lw_all := lw_g (lw_at lw_m10 72 rfl) rfl
theorem q2340 : (Jvm.Cond.code ({ cls := "CameraMovesModel", name := "rampSpeed", desc := "(IIII)I" } : Jvm.MethodName) prog_17_method_63_code (5 : Nat) (Option.some Jvm.ClassFile.FieldType.int)) ∈ lw_all := lw_g (lw_at lw_m10 73 rfl) rfl
theorem q2341 : (Jvm.Cond.methodLink "CameraMovesModel" (273 : Nat) ({ cls := "CameraMovesModel", name := "looksAt", desc := "(III)V" } : Jvm.MethodName)) ∈ lw_all := lw_g (lw_at lw_m10 74 rfl) rfl
theorem q2342 : (Jvm.Cond.privateMethod ({ cls := "CameraMovesModel", name := "looksAt", desc := "(III)V" } : Jvm.MethodName)) ∈ lw_tbl := lw_at lw_m10 75 rfl
theorem q2343 : (Jvm.Cond.instanceMethod ({ cls := "CameraMovesModel", name := "looksAt", desc := "(III)V" } : Jvm.MethodName)) ∈ lw_all := lw_g (lw_at lw_m10 76 rfl) rfl
theorem q2344 : (Jvm.Cond.code ({ cls := "CameraMovesModel", name := "looksAt", desc := "(III)V" } : Jvm.MethodName) prog_17_method_58_code (5 : Nat) (Option.none : Option Jvm.ClassFile.FieldType)) ∈ lw_all := lw_g (lw_at lw_m10 77 rfl) rfl
theorem q2345 : (Jvm.Cond.methodLink "CameraMovesModel" (277 : Nat) ({ cls := "CameraMovesModel", name := "speedIn", desc := "(I)I" } : Jvm.MethodName)) ∈ lw_all := lw_g (lw_at lw_m10 78 rfl) rfl
theorem q2346 : (Jvm.Cond.privateMethod ({ cls := "CameraMovesModel", name := "speedIn", desc := "(I)I" } : Jvm.MethodName)) ∈ lw_tbl := lw_at lw_m10 79 rfl
theorem q2347 : (Jvm.Cond.instanceMethod ({ cls := "CameraMovesModel", name := "speedIn", desc := "(I)I" } : Jvm.MethodName)) ∈ lw_all := lw_g (lw_at lw_m10 80 rfl) rfl
theorem q2348 : (Jvm.Cond.code ({ cls := "CameraMovesModel", name := "speedIn", desc := "(I)I" } : Jvm.MethodName) prog_17_method_61_code (3 : Nat) (Option.some Jvm.ClassFile.FieldType.int)) ∈ lw_all := lw_g (lw_at lw_m10 81 rfl) rfl
theorem q2349 : (Jvm.Cond.methodLink "CameraMovesModel" (264 : Nat) ({ cls := "CameraMovesModel", name := "rawSpeed", desc := "(I)I" } : Jvm.MethodName)) ∈ lw_all := lw_g (lw_at lw_m10 82 rfl) rfl
theorem q2350 : (Jvm.Cond.privateMethod ({ cls := "CameraMovesModel", name := "rawSpeed", desc := "(I)I" } : Jvm.MethodName)) ∈ lw_tbl := lw_at lw_m10 83 rfl
theorem q2351 : (Jvm.Cond.instanceMethod ({ cls := "CameraMovesModel", name := "rawSpeed", desc := "(I)I" } : Jvm.MethodName)) ∈ lw_all := lw_g (lw_at lw_m10 84 rfl) rfl
theorem q2352 : (Jvm.Cond.code ({ cls := "CameraMovesModel", name := "rawSpeed", desc := "(I)I" } : Jvm.MethodName) prog_17_method_59_code (3 : Nat) (Option.some Jvm.ClassFile.FieldType.int)) ∈ lw_all := lw_g (lw_at lw_m10 85 rfl) rfl
theorem q2353 : (Jvm.Cond.methodLink "CameraMovesModel" (267 : Nat) ({ cls := "CameraMovesModel", name := "peaksUpTo", desc := "(I)I" } : Jvm.MethodName)) ∈ lw_all := lw_g (lw_at lw_m10 86 rfl) rfl
theorem q2354 : (Jvm.Cond.privateMethod ({ cls := "CameraMovesModel", name := "peaksUpTo", desc := "(I)I" } : Jvm.MethodName)) ∈ lw_tbl := lw_at lw_m10 87 rfl
theorem q2355 : (Jvm.Cond.instanceMethod ({ cls := "CameraMovesModel", name := "peaksUpTo", desc := "(I)I" } : Jvm.MethodName)) ∈ lw_all := lw_g (lw_at lw_m10 88 rfl) rfl
theorem q2356 : (Jvm.Cond.code ({ cls := "CameraMovesModel", name := "peaksUpTo", desc := "(I)I" } : Jvm.MethodName) prog_17_method_60_code (4 : Nat) (Option.some Jvm.ClassFile.FieldType.int)) ∈ lw_all := lw_g (lw_at lw_m10 89 rfl) rfl
theorem q2358 : (Jvm.Cond.instanceMethod ({ cls := "CameraMovesModel", name := "reach", desc := "(II)I" } : Jvm.MethodName)) ∈ lw_all := lw_g (lw_at lw_m10 91 rfl) rfl
theorem q2359 : (Jvm.Cond.selects "CameraMovesModel" ({ cls := "CameraMovesModel", name := "reach", desc := "(II)I" } : Jvm.MethodName) ({ cls := "CameraMovesModel", name := "reach", desc := "(II)I" } : Jvm.MethodName)) ∈ lw_all := lw_g (lw_at lw_m10 92 rfl) rfl
theorem q2360 : (Jvm.Cond.code ({ cls := "CameraMovesModel", name := "reach", desc := "(II)I" } : Jvm.MethodName) prog_17_method_64_code (3 : Nat) (Option.some Jvm.ClassFile.FieldType.int)) ∈ lw_all := lw_g (lw_at lw_m10 93 rfl) rfl
theorem q2362 : (Jvm.Cond.instanceMethod ({ cls := "CameraMovesModel", name := "status", desc := "(II)I" } : Jvm.MethodName)) ∈ lw_all := lw_g (lw_at lw_m10 95 rfl) rfl
theorem q2363 : (Jvm.Cond.selects "CameraMovesModel" ({ cls := "CameraMovesModel", name := "status", desc := "(II)I" } : Jvm.MethodName) ({ cls := "CameraMovesModel", name := "status", desc := "(II)I" } : Jvm.MethodName)) ∈ lw_all := lw_g (lw_at lw_m10 96 rfl) rfl
theorem q2364 : (Jvm.Cond.code ({ cls := "CameraMovesModel", name := "status", desc := "(II)I" } : Jvm.MethodName) prog_17_method_67_code (3 : Nat) (Option.some Jvm.ClassFile.FieldType.int)) ∈ lw_all := lw_g (lw_at lw_m10 97 rfl) rfl
theorem q2365 : (Jvm.Cond.methodLink "CameraMovesModel" (283 : Nat) ({ cls := "CameraMovesModel", name := "takesAll", desc := "(I)V" } : Jvm.MethodName)) ∈ lw_all := lw_g (lw_at lw_m10 98 rfl) rfl
theorem q2366 : (Jvm.Cond.privateMethod ({ cls := "CameraMovesModel", name := "takesAll", desc := "(I)V" } : Jvm.MethodName)) ∈ lw_tbl := lw_at lw_m10 99 rfl
theorem q2367 : (Jvm.Cond.instanceMethod ({ cls := "CameraMovesModel", name := "takesAll", desc := "(I)V" } : Jvm.MethodName)) ∈ lw_all := lw_g (lw_at lw_m10 100 rfl) rfl
theorem q2368 : (Jvm.Cond.code ({ cls := "CameraMovesModel", name := "takesAll", desc := "(I)V" } : Jvm.MethodName) prog_17_method_66_code (7 : Nat) (Option.none : Option Jvm.ClassFile.FieldType)) ∈ lw_all := lw_g (lw_at lw_m10 101 rfl) rfl
theorem q2369 : (Jvm.Cond.methodLink "CameraMovesModel" (280 : Nat) ({ cls := "CameraMovesModel", name := "nextCue", desc := "(I)I" } : Jvm.MethodName)) ∈ lw_all := lw_g (lw_at lw_m10 102 rfl) rfl
theorem q2370 : (Jvm.Cond.privateMethod ({ cls := "CameraMovesModel", name := "nextCue", desc := "(I)I" } : Jvm.MethodName)) ∈ lw_tbl := lw_at lw_m10 103 rfl
theorem q2371 : (Jvm.Cond.instanceMethod ({ cls := "CameraMovesModel", name := "nextCue", desc := "(I)I" } : Jvm.MethodName)) ∈ lw_all := lw_g (lw_at lw_m10 104 rfl) rfl
theorem q2372 : (Jvm.Cond.code ({ cls := "CameraMovesModel", name := "nextCue", desc := "(I)I" } : Jvm.MethodName) prog_17_method_65_code (4 : Nat) (Option.some Jvm.ClassFile.FieldType.int)) ∈ lw_all := lw_g (lw_at lw_m10 105 rfl) rfl
theorem q2374 : (Jvm.Cond.instanceMethod ({ cls := "CameraMovesModel", name := "distance", desc := "(II)I" } : Jvm.MethodName)) ∈ lw_all := lw_g (lw_at lw_m10 107 rfl) rfl
theorem q2375 : (Jvm.Cond.selects "CameraMovesModel" ({ cls := "CameraMovesModel", name := "distance", desc := "(II)I" } : Jvm.MethodName) ({ cls := "CameraMovesModel", name := "distance", desc := "(II)I" } : Jvm.MethodName)) ∈ lw_all := lw_g (lw_at lw_m10 108 rfl) rfl
theorem q2376 : (Jvm.Cond.code ({ cls := "CameraMovesModel", name := "distance", desc := "(II)I" } : Jvm.MethodName) prog_17_method_68_code (3 : Nat) (Option.some Jvm.ClassFile.FieldType.int)) ∈ lw_all := lw_g (lw_at lw_m10 109 rfl) rfl
theorem q2378 : (Jvm.Cond.instanceMethod ({ cls := "CameraMovesModel", name := "withStatus", desc := "(I)I" } : Jvm.MethodName)) ∈ lw_all := lw_g (lw_at lw_m10 111 rfl) rfl
theorem q2379 : (Jvm.Cond.selects "CameraMovesModel" ({ cls := "CameraMovesModel", name := "withStatus", desc := "(I)I" } : Jvm.MethodName) ({ cls := "CameraMovesModel", name := "withStatus", desc := "(I)I" } : Jvm.MethodName)) ∈ lw_all := lw_g (lw_at lw_m10 112 rfl) rfl
theorem q2380 : (Jvm.Cond.code ({ cls := "CameraMovesModel", name := "withStatus", desc := "(I)I" } : Jvm.MethodName) prog_17_method_70_code (2 : Nat) (Option.some Jvm.ClassFile.FieldType.int)) ∈ lw_all := lw_g (lw_at lw_m10 113 rfl) rfl
theorem q2381 : (Jvm.Cond.methodLink "CameraMovesModel" (286 : Nat) ({ cls := "CameraMovesModel", name := "manyWith", desc := "(I)I" } : Jvm.MethodName)) ∈ lw_all := lw_g (lw_at lw_m10 114 rfl) rfl
theorem q2382 : (Jvm.Cond.privateMethod ({ cls := "CameraMovesModel", name := "manyWith", desc := "(I)I" } : Jvm.MethodName)) ∈ lw_tbl := lw_at lw_m10 115 rfl
theorem q2383 : (Jvm.Cond.instanceMethod ({ cls := "CameraMovesModel", name := "manyWith", desc := "(I)I" } : Jvm.MethodName)) ∈ lw_all := lw_g (lw_at lw_m10 116 rfl) rfl
theorem q2384 : (Jvm.Cond.code ({ cls := "CameraMovesModel", name := "manyWith", desc := "(I)I" } : Jvm.MethodName) prog_17_method_69_code (5 : Nat) (Option.some Jvm.ClassFile.FieldType.int)) ∈ lw_all := lw_g (lw_at lw_m10 117 rfl) rfl
theorem q2386 : (Jvm.Cond.instanceMethod ({ cls := "CameraMovesModel", name := "leastLength", desc := "(I)I" } : Jvm.MethodName)) ∈ lw_all := lw_g (lw_at lw_m10 119 rfl) rfl
theorem q2387 : (Jvm.Cond.selects "CameraMovesModel" ({ cls := "CameraMovesModel", name := "leastLength", desc := "(I)I" } : Jvm.MethodName) ({ cls := "CameraMovesModel", name := "leastLength", desc := "(I)I" } : Jvm.MethodName)) ∈ lw_all := lw_g (lw_at lw_m10 120 rfl) rfl
theorem q2388 : (Jvm.Cond.code ({ cls := "CameraMovesModel", name := "leastLength", desc := "(I)I" } : Jvm.MethodName) prog_17_method_72_code (2 : Nat) (Option.some Jvm.ClassFile.FieldType.int)) ∈ lw_all := lw_g (lw_at lw_m10 121 rfl) rfl
theorem q2389 : (Jvm.Cond.methodLink "CameraMovesModel" (289 : Nat) ({ cls := "CameraMovesModel", name := "lengthNeeded", desc := "(I)I" } : Jvm.MethodName)) ∈ lw_all := lw_g (lw_at lw_m10 122 rfl) rfl
theorem q2390 : (Jvm.Cond.privateMethod ({ cls := "CameraMovesModel", name := "lengthNeeded", desc := "(I)I" } : Jvm.MethodName)) ∈ lw_tbl := lw_at lw_m10 123 rfl
theorem q2391 : (Jvm.Cond.instanceMethod ({ cls := "CameraMovesModel", name := "lengthNeeded", desc := "(I)I" } : Jvm.MethodName)) ∈ lw_all := lw_g (lw_at lw_m10 124 rfl) rfl
theorem q2392 : (Jvm.Cond.code ({ cls := "CameraMovesModel", name := "lengthNeeded", desc := "(I)I" } : Jvm.MethodName) prog_17_method_71_code (5 : Nat) (Option.some Jvm.ClassFile.FieldType.int)) ∈ lw_all := lw_g (lw_at lw_m10 125 rfl) rfl
theorem q2394 : (Jvm.Cond.instanceMethod ({ cls := "CameraMovesModel", name := "position", desc := "(II)I" } : Jvm.MethodName)) ∈ lw_all := lw_g (lw_at lw_m10 127 rfl) rfl
theorem q2395 : (Jvm.Cond.selects "CameraMovesModel" ({ cls := "CameraMovesModel", name := "position", desc := "(II)I" } : Jvm.MethodName) ({ cls := "CameraMovesModel", name := "position", desc := "(II)I" } : Jvm.MethodName)) ∈ lw_all := lw_g (lw_at lw_m10 128 rfl) rfl
theorem q2396 : (Jvm.Cond.code ({ cls := "CameraMovesModel", name := "position", desc := "(II)I" } : Jvm.MethodName) prog_17_method_79_code (3 : Nat) (Option.some Jvm.ClassFile.FieldType.int)) ∈ lw_all := lw_g (lw_at lw_m10 129 rfl) rfl
theorem q2397 : (Jvm.Cond.methodLink "CameraMovesModel" (304 : Nat) ({ cls := "CameraMovesModel", name := "isLaid", desc := "(II)Z" } : Jvm.MethodName)) ∈ lw_all := lw_g (lw_at lw_m10 130 rfl) rfl
theorem q2398 : (Jvm.Cond.privateMethod ({ cls := "CameraMovesModel", name := "isLaid", desc := "(II)Z" } : Jvm.MethodName)) ∈ lw_tbl := lw_at lw_m10 131 rfl
theorem q2399 : (Jvm.Cond.instanceMethod ({ cls := "CameraMovesModel", name := "isLaid", desc := "(II)Z" } : Jvm.MethodName)) ∈ lw_all := lw_g (lw_at lw_m10 132 rfl) rfl
theorem q2400 : (Jvm.Cond.code ({ cls := "CameraMovesModel", name := "isLaid", desc := "(II)Z" } : Jvm.MethodName) prog_17_method_78_code (3 : Nat) (Option.some Jvm.ClassFile.FieldType.boolean)) ∈ lw_all := lw_g (lw_at lw_m10 133 rfl) rfl
theorem q2401 : (Jvm.Cond.methodLink "CameraMovesModel" (301 : Nat) ({ cls := "CameraMovesModel", name := "isFrame", desc := "(I)Z" } : Jvm.MethodName)) ∈ lw_all := lw_g (lw_at lw_m10 134 rfl) rfl
theorem q2402 : (Jvm.Cond.static ({ cls := "CameraMovesModel", name := "isFrame", desc := "(I)Z" } : Jvm.MethodName)) ∈ lw_all := lw_g (lw_at lw_m10 135 rfl) rfl
theorem q2403 : (Jvm.Cond.code ({ cls := "CameraMovesModel", name := "isFrame", desc := "(I)Z" } : Jvm.MethodName) prog_17_method_16_code (1 : Nat) (Option.some Jvm.ClassFile.FieldType.boolean)) ∈ lw_all := lw_g (lw_at lw_m10 136 rfl) rfl
theorem q2404 : (Jvm.Cond.methodLink "CameraMovesModel" (295 : Nat) ({ cls := "CameraMovesModel", name := "lays", desc := "(I)V" } : Jvm.MethodName)) ∈ lw_all := lw_g (lw_at lw_m10 137 rfl) rfl
theorem q2405 : (Jvm.Cond.privateMethod ({ cls := "CameraMovesModel", name := "lays", desc := "(I)V" } : Jvm.MethodName)) ∈ lw_tbl := lw_at lw_m10 138 rfl
theorem q2406 : (Jvm.Cond.instanceMethod ({ cls := "CameraMovesModel", name := "lays", desc := "(I)V" } : Jvm.MethodName)) ∈ lw_all := lw_g (lw_at lw_m10 139 rfl) rfl
theorem q2407 : (Jvm.Cond.code ({ cls := "CameraMovesModel", name := "lays", desc := "(I)V" } : Jvm.MethodName) prog_17_method_73_code (4 : Nat) (Option.none : Option Jvm.ClassFile.FieldType)) ∈ lw_all := lw_g (lw_at lw_m10 140 rfl) rfl
theorem q2408 : (Jvm.Cond.methodLink "CameraMovesModel" (292 : Nat) ({ cls := "CameraMovesModel", name := "laysSpeeds", desc := "(III)V" } : Jvm.MethodName)) ∈ lw_all := lw_g (lw_at lw_m10 141 rfl) rfl
theorem q2409 : (Jvm.Cond.privateMethod ({ cls := "CameraMovesModel", name := "laysSpeeds", desc := "(III)V" } : Jvm.MethodName)) ∈ lw_tbl := lw_at lw_m10 142 rfl
theorem q2410 : (Jvm.Cond.instanceMethod ({ cls := "CameraMovesModel", name := "laysSpeeds", desc := "(III)V" } : Jvm.MethodName)) ∈ lw_all := lw_g (lw_at lw_m10 143 rfl) rfl
theorem q2411 : (Jvm.Cond.code ({ cls := "CameraMovesModel", name := "laysSpeeds", desc := "(III)V" } : Jvm.MethodName) prog_17_method_74_code (7 : Nat) (Option.none : Option Jvm.ClassFile.FieldType)) ∈ lw_all := lw_g (lw_at lw_m10 144 rfl) rfl
theorem q2412 : (Jvm.Cond.methodLink "CameraMovesModel" (298 : Nat) ({ cls := "CameraMovesModel", name := "placeAt", desc := "(II)I" } : Jvm.MethodName)) ∈ lw_all := lw_g (lw_at lw_m10 145 rfl) rfl
theorem q2413 : (Jvm.Cond.privateMethod ({ cls := "CameraMovesModel", name := "placeAt", desc := "(II)I" } : Jvm.MethodName)) ∈ lw_tbl := lw_at lw_m10 146 rfl
theorem q2414 : (Jvm.Cond.instanceMethod ({ cls := "CameraMovesModel", name := "placeAt", desc := "(II)I" } : Jvm.MethodName)) ∈ lw_all := lw_g (lw_at lw_m10 147 rfl) rfl
theorem q2415 : (Jvm.Cond.code ({ cls := "CameraMovesModel", name := "placeAt", desc := "(II)I" } : Jvm.MethodName) prog_17_method_76_code (3 : Nat) (Option.some Jvm.ClassFile.FieldType.int)) ∈ lw_all := lw_g (lw_at lw_m10 148 rfl) rfl
theorem q2417 : (Jvm.Cond.instanceMethod ({ cls := "CameraMovesModel", name := "speed", desc := "(II)I" } : Jvm.MethodName)) ∈ lw_all := lw_g (lw_at lw_m10 150 rfl) rfl
theorem q2418 : (Jvm.Cond.selects "CameraMovesModel" ({ cls := "CameraMovesModel", name := "speed", desc := "(II)I" } : Jvm.MethodName) ({ cls := "CameraMovesModel", name := "speed", desc := "(II)I" } : Jvm.MethodName)) ∈ lw_all := lw_g (lw_at lw_m10 151 rfl) rfl
theorem q2419 : (Jvm.Cond.code ({ cls := "CameraMovesModel", name := "speed", desc := "(II)I" } : Jvm.MethodName) prog_17_method_80_code (3 : Nat) (Option.some Jvm.ClassFile.FieldType.int)) ∈ lw_all := lw_g (lw_at lw_m10 152 rfl) rfl
theorem q2420 : (Jvm.Cond.methodLink "CameraMovesModel" (307 : Nat) ({ cls := "CameraMovesModel", name := "speedAt", desc := "(II)I" } : Jvm.MethodName)) ∈ lw_all := lw_g (lw_at lw_m10 153 rfl) rfl
theorem q2421 : (Jvm.Cond.privateMethod ({ cls := "CameraMovesModel", name := "speedAt", desc := "(II)I" } : Jvm.MethodName)) ∈ lw_tbl := lw_at lw_m10 154 rfl
theorem q2422 : (Jvm.Cond.instanceMethod ({ cls := "CameraMovesModel", name := "speedAt", desc := "(II)I" } : Jvm.MethodName)) ∈ lw_all := lw_g (lw_at lw_m10 155 rfl) rfl
theorem q2423 : (Jvm.Cond.code ({ cls := "CameraMovesModel", name := "speedAt", desc := "(II)I" } : Jvm.MethodName) prog_17_method_77_code (3 : Nat) (Option.some Jvm.ClassFile.FieldType.int)) ∈ lw_all := lw_g (lw_at lw_m10 156 rfl) rfl
theorem q2425 : (Jvm.Cond.instanceMethod ({ cls := "CameraMovesModel", name := "moving", desc := "(I)I" } : Jvm.MethodName)) ∈ lw_all := lw_g (lw_at lw_m10 158 rfl) rfl
theorem q2426 : (Jvm.Cond.selects "CameraMovesModel" ({ cls := "CameraMovesModel", name := "moving", desc := "(I)I" } : Jvm.MethodName) ({ cls := "CameraMovesModel", name := "moving", desc := "(I)I" } : Jvm.MethodName)) ∈ lw_all := lw_g (lw_at lw_m10 159 rfl) rfl
theorem q2427 : (Jvm.Cond.code ({ cls := "CameraMovesModel", name := "moving", desc := "(I)I" } : Jvm.MethodName) prog_17_method_82_code (2 : Nat) (Option.some Jvm.ClassFile.FieldType.int)) ∈ lw_all := lw_g (lw_at lw_m10 160 rfl) rfl
theorem q2428 : (Jvm.Cond.methodLink "CameraMovesModel" (310 : Nat) ({ cls := "CameraMovesModel", name := "laysAll", desc := "()V" } : Jvm.MethodName)) ∈ lw_all := lw_g (lw_at lw_m10 161 rfl) rfl
theorem q2429 : (Jvm.Cond.privateMethod ({ cls := "CameraMovesModel", name := "laysAll", desc := "()V" } : Jvm.MethodName)) ∈ lw_tbl := lw_at lw_m10 162 rfl
theorem q2430 : (Jvm.Cond.instanceMethod ({ cls := "CameraMovesModel", name := "laysAll", desc := "()V" } : Jvm.MethodName)) ∈ lw_all := lw_g (lw_at lw_m10 163 rfl) rfl
theorem q2431 : (Jvm.Cond.code ({ cls := "CameraMovesModel", name := "laysAll", desc := "()V" } : Jvm.MethodName) prog_17_method_75_code (2 : Nat) (Option.none : Option Jvm.ClassFile.FieldType)) ∈ lw_all := lw_g (lw_at lw_m10 164 rfl) rfl
theorem q2432 : (Jvm.Cond.methodLink "CameraMovesModel" (313 : Nat) ({ cls := "CameraMovesModel", name := "movingAt", desc := "(I)I" } : Jvm.MethodName)) ∈ lw_all := lw_g (lw_at lw_m10 165 rfl) rfl
theorem q2433 : (Jvm.Cond.privateMethod ({ cls := "CameraMovesModel", name := "movingAt", desc := "(I)I" } : Jvm.MethodName)) ∈ lw_tbl := lw_at lw_m10 166 rfl
theorem q2434 : (Jvm.Cond.instanceMethod ({ cls := "CameraMovesModel", name := "movingAt", desc := "(I)I" } : Jvm.MethodName)) ∈ lw_all := lw_g (lw_at lw_m10 167 rfl) rfl
theorem q2435 : (Jvm.Cond.code ({ cls := "CameraMovesModel", name := "movingAt", desc := "(I)I" } : Jvm.MethodName) prog_17_method_81_code (4 : Nat) (Option.some Jvm.ClassFile.FieldType.int)) ∈ lw_all := lw_g (lw_at lw_m10 168 rfl) rfl
theorem q2437 : (Jvm.Cond.instanceMethod ({ cls := "CameraMovesModel", name := "end", desc := "()I" } : Jvm.MethodName)) ∈ lw_all := lw_g (lw_at lw_m10 170 rfl) rfl
theorem q2438 : (Jvm.Cond.selects "CameraMovesModel" ({ cls := "CameraMovesModel", name := "end", desc := "()I" } : Jvm.MethodName) ({ cls := "CameraMovesModel", name := "end", desc := "()I" } : Jvm.MethodName)) ∈ lw_all := lw_g (lw_at lw_m10 171 rfl) rfl
theorem q2439 : (Jvm.Cond.code ({ cls := "CameraMovesModel", name := "end", desc := "()I" } : Jvm.MethodName) prog_17_method_84_code (1 : Nat) (Option.some Jvm.ClassFile.FieldType.int)) ∈ lw_all := lw_g (lw_at lw_m10 172 rfl) rfl
theorem q2440 : (Jvm.Cond.methodLink "CameraMovesModel" (316 : Nat) ({ cls := "CameraMovesModel", name := "lastMoving", desc := "()I" } : Jvm.MethodName)) ∈ lw_all := lw_g (lw_at lw_m10 173 rfl) rfl
theorem q2441 : (Jvm.Cond.privateMethod ({ cls := "CameraMovesModel", name := "lastMoving", desc := "()I" } : Jvm.MethodName)) ∈ lw_tbl := lw_at lw_m10 174 rfl
theorem q2442 : (Jvm.Cond.instanceMethod ({ cls := "CameraMovesModel", name := "lastMoving", desc := "()I" } : Jvm.MethodName)) ∈ lw_all := lw_g (lw_at lw_m10 175 rfl) rfl
theorem q2443 : (Jvm.Cond.code ({ cls := "CameraMovesModel", name := "lastMoving", desc := "()I" } : Jvm.MethodName) prog_17_method_83_code (2 : Nat) (Option.some Jvm.ClassFile.FieldType.int)) ∈ lw_all := lw_g (lw_at lw_m10 176 rfl) rfl
theorem q2445 : (Jvm.Cond.instanceMethod ({ cls := "CameraMovesModel", name := "stillFrames", desc := "()I" } : Jvm.MethodName)) ∈ lw_all := lw_g (lw_at lw_m10 178 rfl) rfl
theorem q2446 : (Jvm.Cond.selects "CameraMovesModel" ({ cls := "CameraMovesModel", name := "stillFrames", desc := "()I" } : Jvm.MethodName) ({ cls := "CameraMovesModel", name := "stillFrames", desc := "()I" } : Jvm.MethodName)) ∈ lw_all := lw_g (lw_at lw_m10 179 rfl) rfl
theorem q2447 : (Jvm.Cond.code ({ cls := "CameraMovesModel", name := "stillFrames", desc := "()I" } : Jvm.MethodName) prog_17_method_85_code (3 : Nat) (Option.some Jvm.ClassFile.FieldType.int)) ∈ lw_all := lw_g (lw_at lw_m10 180 rfl) rfl
theorem q2449 : (Jvm.Cond.instanceMethod ({ cls := "CameraMovesModel", name := "travelled", desc := "(I)I" } : Jvm.MethodName)) ∈ lw_all := lw_g (lw_at lw_m10 182 rfl) rfl
theorem q2450 : (Jvm.Cond.selects "CameraMovesModel" ({ cls := "CameraMovesModel", name := "travelled", desc := "(I)I" } : Jvm.MethodName) ({ cls := "CameraMovesModel", name := "travelled", desc := "(I)I" } : Jvm.MethodName)) ∈ lw_all := lw_g (lw_at lw_m10 183 rfl) rfl
theorem q2451 : (Jvm.Cond.code ({ cls := "CameraMovesModel", name := "travelled", desc := "(I)I" } : Jvm.MethodName) prog_17_method_87_code (2 : Nat) (Option.some Jvm.ClassFile.FieldType.int)) ∈ lw_all := lw_g (lw_at lw_m10 184 rfl) rfl
theorem q2452 : (Jvm.Cond.methodLink "CameraMovesModel" (319 : Nat) ({ cls := "CameraMovesModel", name := "travelledBy", desc := "(I)I" } : Jvm.MethodName)) ∈ lw_all := lw_g (lw_at lw_m10 185 rfl) rfl
theorem q2453 : (Jvm.Cond.privateMethod ({ cls := "CameraMovesModel", name := "travelledBy", desc := "(I)I" } : Jvm.MethodName)) ∈ lw_tbl := lw_at lw_m10 186 rfl
theorem q2454 : (Jvm.Cond.instanceMethod ({ cls := "CameraMovesModel", name := "travelledBy", desc := "(I)I" } : Jvm.MethodName)) ∈ lw_all := lw_g (lw_at lw_m10 187 rfl) rfl
theorem q2455 : (Jvm.Cond.code ({ cls := "CameraMovesModel", name := "travelledBy", desc := "(I)I" } : Jvm.MethodName) prog_17_method_86_code (4 : Nat) (Option.some Jvm.ClassFile.FieldType.int)) ∈ lw_all := lw_g (lw_at lw_m10 188 rfl) rfl
theorem q2457 : (Jvm.Cond.instanceMethod ({ cls := "CameraMovesModel", name := "fastest", desc := "(I)I" } : Jvm.MethodName)) ∈ lw_all := lw_g (lw_at lw_m10 190 rfl) rfl
theorem q2458 : (Jvm.Cond.selects "CameraMovesModel" ({ cls := "CameraMovesModel", name := "fastest", desc := "(I)I" } : Jvm.MethodName) ({ cls := "CameraMovesModel", name := "fastest", desc := "(I)I" } : Jvm.MethodName)) ∈ lw_all := lw_g (lw_at lw_m10 191 rfl) rfl
theorem q2459 : (Jvm.Cond.code ({ cls := "CameraMovesModel", name := "fastest", desc := "(I)I" } : Jvm.MethodName) prog_17_method_88_code (5 : Nat) (Option.some Jvm.ClassFile.FieldType.int)) ∈ lw_all := lw_g (lw_at lw_m10 192 rfl) rfl
theorem q2461 : (Jvm.Cond.instanceMethod ({ cls := "CameraMovesModel", name := "meanSpeed", desc := "(I)D" } : Jvm.MethodName)) ∈ lw_all := lw_g (lw_at lw_m10 194 rfl) rfl
theorem q2462 : (Jvm.Cond.selects "CameraMovesModel" ({ cls := "CameraMovesModel", name := "meanSpeed", desc := "(I)D" } : Jvm.MethodName) ({ cls := "CameraMovesModel", name := "meanSpeed", desc := "(I)D" } : Jvm.MethodName)) ∈ lw_all := lw_g (lw_at lw_m10 195 rfl) rfl
theorem q2463 : (Jvm.Cond.code ({ cls := "CameraMovesModel", name := "meanSpeed", desc := "(I)D" } : Jvm.MethodName) prog_17_method_89_code (5 : Nat) (Option.some Jvm.ClassFile.FieldType.double)) ∈ lw_all := lw_g (lw_at lw_m10 196 rfl) rfl
theorem q2465 : (Jvm.Cond.instanceMethod ({ cls := "CameraMovesModel", name := "walls", desc := "(I)I" } : Jvm.MethodName)) ∈ lw_all := lw_g (lw_at lw_m10 198 rfl) rfl
theorem q2466 : (Jvm.Cond.selects "CameraMovesModel" ({ cls := "CameraMovesModel", name := "walls", desc := "(I)I" } : Jvm.MethodName) ({ cls := "CameraMovesModel", name := "walls", desc := "(I)I" } : Jvm.MethodName)) ∈ lw_all := lw_g (lw_at lw_m10 199 rfl) rfl
theorem q2467 : (Jvm.Cond.code ({ cls := "CameraMovesModel", name := "walls", desc := "(I)I" } : Jvm.MethodName) prog_17_method_92_code (2 : Nat) (Option.some Jvm.ClassFile.FieldType.int)) ∈ lw_all := lw_g (lw_at lw_m10 200 rfl) rfl
theorem q2468 : (Jvm.Cond.methodLink "CameraMovesModel" (328 : Nat) ({ cls := "CameraMovesModel", name := "wallsAt", desc := "(I)I" } : Jvm.MethodName)) ∈ lw_all := lw_g (lw_at lw_m10 201 rfl) rfl
theorem q2469 : (Jvm.Cond.privateMethod ({ cls := "CameraMovesModel", name := "wallsAt", desc := "(I)I" } : Jvm.MethodName)) ∈ lw_tbl := lw_at lw_m10 202 rfl
theorem q2470 : (Jvm.Cond.instanceMethod ({ cls := "CameraMovesModel", name := "wallsAt", desc := "(I)I" } : Jvm.MethodName)) ∈ lw_all := lw_g (lw_at lw_m10 203 rfl) rfl
theorem q2471 : (Jvm.Cond.code ({ cls := "CameraMovesModel", name := "wallsAt", desc := "(I)I" } : Jvm.MethodName) prog_17_method_91_code (4 : Nat) (Option.some Jvm.ClassFile.FieldType.int)) ∈ lw_all := lw_g (lw_at lw_m10 204 rfl) rfl
theorem q2472 : (Jvm.Cond.methodLink "CameraMovesModel" (325 : Nat) ({ cls := "CameraMovesModel", name := "isInside", desc := "(II)Z" } : Jvm.MethodName)) ∈ lw_all := lw_g (lw_at lw_m10 205 rfl) rfl
theorem q2473 : (Jvm.Cond.privateMethod ({ cls := "CameraMovesModel", name := "isInside", desc := "(II)Z" } : Jvm.MethodName)) ∈ lw_tbl := lw_at lw_m10 206 rfl
theorem q2474 : (Jvm.Cond.instanceMethod ({ cls := "CameraMovesModel", name := "isInside", desc := "(II)Z" } : Jvm.MethodName)) ∈ lw_all := lw_g (lw_at lw_m10 207 rfl) rfl
theorem q2475 : (Jvm.Cond.code ({ cls := "CameraMovesModel", name := "isInside", desc := "(II)Z" } : Jvm.MethodName) prog_17_method_90_code (5 : Nat) (Option.some Jvm.ClassFile.FieldType.boolean)) ∈ lw_all := lw_g (lw_at lw_m10 208 rfl) rfl
theorem q2476 : (Jvm.Cond.methodLink "CameraMovesModel" (322 : Nat) ({ cls := "CameraMovesModel", name := "wallOf", desc := "(II)I" } : Jvm.MethodName)) ∈ lw_all := lw_g (lw_at lw_m10 209 rfl) rfl
theorem q2477 : (Jvm.Cond.privateMethod ({ cls := "CameraMovesModel", name := "wallOf", desc := "(II)I" } : Jvm.MethodName)) ∈ lw_tbl := lw_at lw_m10 210 rfl
theorem q2478 : (Jvm.Cond.instanceMethod ({ cls := "CameraMovesModel", name := "wallOf", desc := "(II)I" } : Jvm.MethodName)) ∈ lw_all := lw_g (lw_at lw_m10 211 rfl) rfl
theorem q2479 : (Jvm.Cond.code ({ cls := "CameraMovesModel", name := "wallOf", desc := "(II)I" } : Jvm.MethodName) prog_17_method_17_code (3 : Nat) (Option.some Jvm.ClassFile.FieldType.int)) ∈ lw_all := lw_g (lw_at lw_m10 212 rfl) rfl
theorem q2481 : (Jvm.Cond.instanceMethod ({ cls := "CameraMovesModel", name := "firstHit", desc := "()I" } : Jvm.MethodName)) ∈ lw_all := lw_g (lw_at lw_m10 214 rfl) rfl
theorem q2482 : (Jvm.Cond.selects "CameraMovesModel" ({ cls := "CameraMovesModel", name := "firstHit", desc := "()I" } : Jvm.MethodName) ({ cls := "CameraMovesModel", name := "firstHit", desc := "()I" } : Jvm.MethodName)) ∈ lw_all := lw_g (lw_at lw_m10 215 rfl) rfl
theorem q2483 : (Jvm.Cond.code ({ cls := "CameraMovesModel", name := "firstHit", desc := "()I" } : Jvm.MethodName) prog_17_method_93_code (2 : Nat) (Option.some Jvm.ClassFile.FieldType.int)) ∈ lw_all := lw_g (lw_at lw_m10 216 rfl) rfl
theorem q2485 : (Jvm.Cond.instanceMethod ({ cls := "CameraMovesModel", name := "framesInside", desc := "(I)I" } : Jvm.MethodName)) ∈ lw_all := lw_g (lw_at lw_m10 218 rfl) rfl
theorem q2486 : (Jvm.Cond.selects "CameraMovesModel" ({ cls := "CameraMovesModel", name := "framesInside", desc := "(I)I" } : Jvm.MethodName) ({ cls := "CameraMovesModel", name := "framesInside", desc := "(I)I" } : Jvm.MethodName)) ∈ lw_all := lw_g (lw_at lw_m10 219 rfl) rfl
theorem q2487 : (Jvm.Cond.code ({ cls := "CameraMovesModel", name := "framesInside", desc := "(I)I" } : Jvm.MethodName) prog_17_method_94_code (4 : Nat) (Option.some Jvm.ClassFile.FieldType.int)) ∈ lw_all := lw_g (lw_at lw_m10 220 rfl) rfl
theorem q2488 : (Jvm.Cond.methodLink "CameraMovesModel" (331 : Nat) ({ cls := "CameraMovesModel", name := "isWall", desc := "(I)Z" } : Jvm.MethodName)) ∈ lw_all := lw_g (lw_at lw_m10 221 rfl) rfl
theorem q2489 : (Jvm.Cond.privateMethod ({ cls := "CameraMovesModel", name := "isWall", desc := "(I)Z" } : Jvm.MethodName)) ∈ lw_tbl := lw_at lw_m10 222 rfl
theorem q2490 : (Jvm.Cond.instanceMethod ({ cls := "CameraMovesModel", name := "isWall", desc := "(I)Z" } : Jvm.MethodName)) ∈ lw_all := lw_g (lw_at lw_m10 223 rfl) rfl
theorem q2491 : (Jvm.Cond.code ({ cls := "CameraMovesModel", name := "isWall", desc := "(I)Z" } : Jvm.MethodName) prog_17_method_14_code (2 : Nat) (Option.some Jvm.ClassFile.FieldType.boolean)) ∈ lw_all := lw_g (lw_at lw_m10 224 rfl) rfl
theorem q2493 : (Jvm.Cond.instanceMethod ({ cls := "CameraMovesModel", name := "shown", desc := "(II)I" } : Jvm.MethodName)) ∈ lw_all := lw_g (lw_at lw_m10 226 rfl) rfl
theorem q2494 : (Jvm.Cond.selects "CameraMovesModel" ({ cls := "CameraMovesModel", name := "shown", desc := "(II)I" } : Jvm.MethodName) ({ cls := "CameraMovesModel", name := "shown", desc := "(II)I" } : Jvm.MethodName)) ∈ lw_all := lw_g (lw_at lw_m10 227 rfl) rfl
theorem q2495 : (Jvm.Cond.code ({ cls := "CameraMovesModel", name := "shown", desc := "(II)I" } : Jvm.MethodName) prog_17_method_97_code (3 : Nat) (Option.some Jvm.ClassFile.FieldType.int)) ∈ lw_all := lw_g (lw_at lw_m10 228 rfl) rfl
theorem q2496 : (Jvm.Cond.methodLink "CameraMovesModel" (338 : Nat) ({ cls := "CameraMovesModel", name := "isPass", desc := "(I)Z" } : Jvm.MethodName)) ∈ lw_all := lw_g (lw_at lw_m10 229 rfl) rfl
theorem q2497 : (Jvm.Cond.privateMethod ({ cls := "CameraMovesModel", name := "isPass", desc := "(I)Z" } : Jvm.MethodName)) ∈ lw_tbl := lw_at lw_m10 230 rfl
theorem q2498 : (Jvm.Cond.instanceMethod ({ cls := "CameraMovesModel", name := "isPass", desc := "(I)Z" } : Jvm.MethodName)) ∈ lw_all := lw_g (lw_at lw_m10 231 rfl) rfl
theorem q2499 : (Jvm.Cond.code ({ cls := "CameraMovesModel", name := "isPass", desc := "(I)Z" } : Jvm.MethodName) prog_17_method_15_code (2 : Nat) (Option.some Jvm.ClassFile.FieldType.boolean)) ∈ lw_all := lw_g (lw_at lw_m10 232 rfl) rfl
theorem q2500 : (Jvm.Cond.methodLink "CameraMovesModel" (341 : Nat) ({ cls := "CameraMovesModel", name := "shownIn", desc := "(II)I" } : Jvm.MethodName)) ∈ lw_all := lw_g (lw_at lw_m10 233 rfl) rfl
theorem q2501 : (Jvm.Cond.privateMethod ({ cls := "CameraMovesModel", name := "shownIn", desc := "(II)I" } : Jvm.MethodName)) ∈ lw_tbl := lw_at lw_m10 234 rfl
theorem q2502 : (Jvm.Cond.instanceMethod ({ cls := "CameraMovesModel", name := "shownIn", desc := "(II)I" } : Jvm.MethodName)) ∈ lw_all := lw_g (lw_at lw_m10 235 rfl) rfl
theorem q2503 : (Jvm.Cond.code ({ cls := "CameraMovesModel", name := "shownIn", desc := "(II)I" } : Jvm.MethodName) prog_17_method_96_code (3 : Nat) (Option.some Jvm.ClassFile.FieldType.int)) ∈ lw_all := lw_g (lw_at lw_m10 236 rfl) rfl
theorem q2504 : (Jvm.Cond.methodLink "CameraMovesModel" (334 : Nat) ({ cls := "CameraMovesModel", name := "shownBy", desc := "(IIII)I" } : Jvm.MethodName)) ∈ lw_all := lw_g (lw_at lw_m10 237 rfl) rfl
theorem q2505 : (Jvm.Cond.static ({ cls := "CameraMovesModel", name := "shownBy", desc := "(IIII)I" } : Jvm.MethodName)) ∈ lw_all := lw_g (lw_at lw_m10 238 rfl) rfl
theorem q2506 : (Jvm.Cond.code ({ cls := "CameraMovesModel", name := "shownBy", desc := "(IIII)I" } : Jvm.MethodName) prog_17_method_95_code (5 : Nat) (Option.some Jvm.ClassFile.FieldType.int)) ∈ lw_all := lw_g (lw_at lw_m10 239 rfl) rfl
theorem q2508 : (Jvm.Cond.instanceMethod ({ cls := "CameraMovesModel", name := "passPosition", desc := "(III)I" } : Jvm.MethodName)) ∈ lw_all := lw_g (lw_at lw_m11 1 rfl) rfl
theorem q2509 : (Jvm.Cond.selects "CameraMovesModel" ({ cls := "CameraMovesModel", name := "passPosition", desc := "(III)I" } : Jvm.MethodName) ({ cls := "CameraMovesModel", name := "passPosition", desc := "(III)I" } : Jvm.MethodName)) ∈ lw_all := lw_g (lw_at lw_m11 2 rfl) rfl
theorem q2510 : (Jvm.Cond.code ({ cls := "CameraMovesModel", name := "passPosition", desc := "(III)I" } : Jvm.MethodName) prog_17_method_98_code (4 : Nat) (Option.some Jvm.ClassFile.FieldType.int)) ∈ lw_all := lw_g (lw_at lw_m11 3 rfl) rfl
theorem q2512 : (Jvm.Cond.instanceMethod ({ cls := "CameraMovesModel", name := "fits", desc := "(I)Z" } : Jvm.MethodName)) ∈ lw_all := lw_g (lw_at lw_m11 5 rfl) rfl
theorem q2513 : (Jvm.Cond.selects "CameraMovesModel" ({ cls := "CameraMovesModel", name := "fits", desc := "(I)Z" } : Jvm.MethodName) ({ cls := "CameraMovesModel", name := "fits", desc := "(I)Z" } : Jvm.MethodName)) ∈ lw_all := lw_g (lw_at lw_m11 6 rfl) rfl
theorem q2514 : (Jvm.Cond.code ({ cls := "CameraMovesModel", name := "fits", desc := "(I)Z" } : Jvm.MethodName) prog_17_method_100_code (2 : Nat) (Option.some Jvm.ClassFile.FieldType.boolean)) ∈ lw_all := lw_g (lw_at lw_m11 7 rfl) rfl
theorem q2515 : (Jvm.Cond.methodLink "CameraMovesModel" (344 : Nat) ({ cls := "CameraMovesModel", name := "fitsBy", desc := "(II)Z" } : Jvm.MethodName)) ∈ lw_all := lw_g (lw_at lw_m11 8 rfl) rfl
theorem q2516 : (Jvm.Cond.privateMethod ({ cls := "CameraMovesModel", name := "fitsBy", desc := "(II)Z" } : Jvm.MethodName)) ∈ lw_tbl := lw_at lw_m11 9 rfl
theorem q2517 : (Jvm.Cond.instanceMethod ({ cls := "CameraMovesModel", name := "fitsBy", desc := "(II)Z" } : Jvm.MethodName)) ∈ lw_all := lw_g (lw_at lw_m11 10 rfl) rfl
theorem q2518 : (Jvm.Cond.code ({ cls := "CameraMovesModel", name := "fitsBy", desc := "(II)Z" } : Jvm.MethodName) prog_17_method_99_code (7 : Nat) (Option.some Jvm.ClassFile.FieldType.boolean)) ∈ lw_all := lw_g (lw_at lw_m11 11 rfl) rfl
theorem q2520 : (Jvm.Cond.instanceMethod ({ cls := "CameraMovesModel", name := "matches", desc := "(II)I" } : Jvm.MethodName)) ∈ lw_all := lw_g (lw_at lw_m11 13 rfl) rfl
theorem q2521 : (Jvm.Cond.selects "CameraMovesModel" ({ cls := "CameraMovesModel", name := "matches", desc := "(II)I" } : Jvm.MethodName) ({ cls := "CameraMovesModel", name := "matches", desc := "(II)I" } : Jvm.MethodName)) ∈ lw_all := lw_g (lw_at lw_m11 14 rfl) rfl
theorem q2522 : (Jvm.Cond.code ({ cls := "CameraMovesModel", name := "matches", desc := "(II)I" } : Jvm.MethodName) prog_17_method_102_code (5 : Nat) (Option.some Jvm.ClassFile.FieldType.int)) ∈ lw_all := lw_g (lw_at lw_m11 15 rfl) rfl
theorem q2523 : (Jvm.Cond.methodLink "CameraMovesModel" (347 : Nat) ({ cls := "CameraMovesModel", name := "areAlike", desc := "(III)Z" } : Jvm.MethodName)) ∈ lw_all := lw_g (lw_at lw_m11 16 rfl) rfl
theorem q2524 : (Jvm.Cond.privateMethod ({ cls := "CameraMovesModel", name := "areAlike", desc := "(III)Z" } : Jvm.MethodName)) ∈ lw_tbl := lw_at lw_m11 17 rfl
theorem q2525 : (Jvm.Cond.instanceMethod ({ cls := "CameraMovesModel", name := "areAlike", desc := "(III)Z" } : Jvm.MethodName)) ∈ lw_all := lw_g (lw_at lw_m11 18 rfl) rfl
theorem q2526 : (Jvm.Cond.code ({ cls := "CameraMovesModel", name := "areAlike", desc := "(III)Z" } : Jvm.MethodName) prog_17_method_101_code (5 : Nat) (Option.some Jvm.ClassFile.FieldType.boolean)) ∈ lw_all := lw_g (lw_at lw_m11 19 rfl) rfl
theorem q2528 : (Jvm.Cond.instanceMethod ({ cls := "CameraMovesModel", name := "mismatch", desc := "(II)I" } : Jvm.MethodName)) ∈ lw_all := lw_g (lw_at lw_m11 21 rfl) rfl
theorem q2529 : (Jvm.Cond.selects "CameraMovesModel" ({ cls := "CameraMovesModel", name := "mismatch", desc := "(II)I" } : Jvm.MethodName) ({ cls := "CameraMovesModel", name := "mismatch", desc := "(II)I" } : Jvm.MethodName)) ∈ lw_all := lw_g (lw_at lw_m11 22 rfl) rfl
theorem q2530 : (Jvm.Cond.code ({ cls := "CameraMovesModel", name := "mismatch", desc := "(II)I" } : Jvm.MethodName) prog_17_method_103_code (4 : Nat) (Option.some Jvm.ClassFile.FieldType.int)) ∈ lw_all := lw_g (lw_at lw_m11 23 rfl) rfl
theorem q2532 : (Jvm.Cond.instanceMethod ({ cls := "CameraMovesModel", name := "fittingDen", desc := "(I)I" } : Jvm.MethodName)) ∈ lw_all := lw_g (lw_at lw_m11 25 rfl) rfl
theorem q2533 : (Jvm.Cond.selects "CameraMovesModel" ({ cls := "CameraMovesModel", name := "fittingDen", desc := "(I)I" } : Jvm.MethodName) ({ cls := "CameraMovesModel", name := "fittingDen", desc := "(I)I" } : Jvm.MethodName)) ∈ lw_all := lw_g (lw_at lw_m11 26 rfl) rfl
theorem q2534 : (Jvm.Cond.code ({ cls := "CameraMovesModel", name := "fittingDen", desc := "(I)I" } : Jvm.MethodName) prog_17_method_104_code (3 : Nat) (Option.some Jvm.ClassFile.FieldType.int)) ∈ lw_all := lw_g (lw_at lw_m11 27 rfl) rfl
theorem q2536 : (Jvm.Cond.instanceMethod ({ cls := "CameraMovesModel", name := "earliest", desc := "(I)I" } : Jvm.MethodName)) ∈ lw_all := lw_g (lw_at lw_m11 29 rfl) rfl
theorem q2537 : (Jvm.Cond.selects "CameraMovesModel" ({ cls := "CameraMovesModel", name := "earliest", desc := "(I)I" } : Jvm.MethodName) ({ cls := "CameraMovesModel", name := "earliest", desc := "(I)I" } : Jvm.MethodName)) ∈ lw_all := lw_g (lw_at lw_m11 30 rfl) rfl
theorem q2538 : (Jvm.Cond.code ({ cls := "CameraMovesModel", name := "earliest", desc := "(I)I" } : Jvm.MethodName) prog_17_method_108_code (4 : Nat) (Option.some Jvm.ClassFile.FieldType.int)) ∈ lw_all := lw_g (lw_at lw_m11 31 rfl) rfl
theorem q2539 : (Jvm.Cond.methodLink "CameraMovesModel" (350 : Nat) ({ cls := "CameraMovesModel", name := "beginTrial", desc := "()V" } : Jvm.MethodName)) ∈ lw_all := lw_g (lw_at lw_m11 32 rfl) rfl
theorem q2540 : (Jvm.Cond.privateMethod ({ cls := "CameraMovesModel", name := "beginTrial", desc := "()V" } : Jvm.MethodName)) ∈ lw_tbl := lw_at lw_m11 33 rfl
theorem q2541 : (Jvm.Cond.instanceMethod ({ cls := "CameraMovesModel", name := "beginTrial", desc := "()V" } : Jvm.MethodName)) ∈ lw_all := lw_g (lw_at lw_m11 34 rfl) rfl
theorem q2542 : (Jvm.Cond.code ({ cls := "CameraMovesModel", name := "beginTrial", desc := "()V" } : Jvm.MethodName) prog_17_method_106_code (1 : Nat) (Option.none : Option Jvm.ClassFile.FieldType)) ∈ lw_all := lw_g (lw_at lw_m11 35 rfl) rfl
theorem q2543 : (Jvm.Cond.methodLink "CameraMovesModel" (353 : Nat) ({ cls := "CameraMovesModel", name := "setOf", desc := "(III)V" } : Jvm.MethodName)) ∈ lw_all := lw_g (lw_at lw_m11 36 rfl) rfl
theorem q2544 : (Jvm.Cond.privateMethod ({ cls := "CameraMovesModel", name := "setOf", desc := "(III)V" } : Jvm.MethodName)) ∈ lw_tbl := lw_at lw_m11 37 rfl
theorem q2545 : (Jvm.Cond.instanceMethod ({ cls := "CameraMovesModel", name := "setOf", desc := "(III)V" } : Jvm.MethodName)) ∈ lw_all := lw_g (lw_at lw_m11 38 rfl) rfl
theorem q2546 : (Jvm.Cond.code ({ cls := "CameraMovesModel", name := "setOf", desc := "(III)V" } : Jvm.MethodName) prog_17_method_10_code (4 : Nat) (Option.none : Option Jvm.ClassFile.FieldType)) ∈ lw_all := lw_g (lw_at lw_m11 39 rfl) rfl
theorem q2547 : (Jvm.Cond.methodLink "CameraMovesModel" (73 : Nat) ({ cls := "CameraMovesModel", name := "set", desc := "(II)V" } : Jvm.MethodName)) ∈ lw_all := lw_g (lw_at lw_m11 40 rfl) rfl
theorem q2548 : (Jvm.Cond.privateMethod ({ cls := "CameraMovesModel", name := "set", desc := "(II)V" } : Jvm.MethodName)) ∈ lw_tbl := lw_at lw_m11 41 rfl
theorem q2549 : (Jvm.Cond.instanceMethod ({ cls := "CameraMovesModel", name := "set", desc := "(II)V" } : Jvm.MethodName)) ∈ lw_all := lw_g (lw_at lw_m11 42 rfl) rfl
theorem q2550 : (Jvm.Cond.code ({ cls := "CameraMovesModel", name := "set", desc := "(II)V" } : Jvm.MethodName) prog_17_method_7_code (3 : Nat) (Option.none : Option Jvm.ClassFile.FieldType)) ∈ lw_all := lw_g (lw_at lw_m11 43 rfl) rfl
theorem q2551 : (Jvm.Cond.methodLink "CameraMovesModel" (356 : Nat) ({ cls := "CameraMovesModel", name := "isGood", desc := "(I)Z" } : Jvm.MethodName)) ∈ lw_all := lw_g (lw_at lw_m11 44 rfl) rfl
theorem q2552 : (Jvm.Cond.privateMethod ({ cls := "CameraMovesModel", name := "isGood", desc := "(I)Z" } : Jvm.MethodName)) ∈ lw_tbl := lw_at lw_m11 45 rfl
theorem q2553 : (Jvm.Cond.instanceMethod ({ cls := "CameraMovesModel", name := "isGood", desc := "(I)Z" } : Jvm.MethodName)) ∈ lw_all := lw_g (lw_at lw_m11 46 rfl) rfl
theorem q2554 : (Jvm.Cond.code ({ cls := "CameraMovesModel", name := "isGood", desc := "(I)Z" } : Jvm.MethodName) prog_17_method_107_code (3 : Nat) (Option.some Jvm.ClassFile.FieldType.boolean)) ∈ lw_all := lw_g (lw_at lw_m11 47 rfl) rfl
theorem q2556 : (Jvm.Cond.instanceMethod ({ cls := "CameraMovesModel", name := "hitsIf", desc := "(II)I" } : Jvm.MethodName)) ∈ lw_all := lw_g (lw_at lw_m11 49 rfl) rfl
theorem q2557 : (Jvm.Cond.selects "CameraMovesModel" ({ cls := "CameraMovesModel", name := "hitsIf", desc := "(II)I" } : Jvm.MethodName) ({ cls := "CameraMovesModel", name := "hitsIf", desc := "(II)I" } : Jvm.MethodName)) ∈ lw_all := lw_g (lw_at lw_m11 50 rfl) rfl
theorem q2558 : (Jvm.Cond.code ({ cls := "CameraMovesModel", name := "hitsIf", desc := "(II)I" } : Jvm.MethodName) prog_17_method_109_code (5 : Nat) (Option.some Jvm.ClassFile.FieldType.int)) ∈ lw_all := lw_g (lw_at lw_m11 51 rfl) rfl
theorem q2560 : (Jvm.Cond.instanceMethod ({ cls := "CameraMovesModel", name := "mostSaved", desc := "(I)I" } : Jvm.MethodName)) ∈ lw_all := lw_g (lw_at lw_m11 53 rfl) rfl
theorem q2561 : (Jvm.Cond.selects "CameraMovesModel" ({ cls := "CameraMovesModel", name := "mostSaved", desc := "(I)I" } : Jvm.MethodName) ({ cls := "CameraMovesModel", name := "mostSaved", desc := "(I)I" } : Jvm.MethodName)) ∈ lw_all := lw_g (lw_at lw_m11 54 rfl) rfl
theorem q2562 : (Jvm.Cond.code ({ cls := "CameraMovesModel", name := "mostSaved", desc := "(I)I" } : Jvm.MethodName) prog_17_method_112_code (7 : Nat) (Option.some Jvm.ClassFile.FieldType.int)) ∈ lw_all := lw_g (lw_at lw_m11 55 rfl) rfl
theorem q2563 : (Jvm.Cond.methodLink "CameraMovesModel" (363 : Nat) ({ cls := "CameraMovesModel", name := "removesCue", desc := "(I)V" } : Jvm.MethodName)) ∈ lw_all := lw_g (lw_at lw_m11 56 rfl) rfl
theorem q2564 : (Jvm.Cond.privateMethod ({ cls := "CameraMovesModel", name := "removesCue", desc := "(I)V" } : Jvm.MethodName)) ∈ lw_tbl := lw_at lw_m11 57 rfl
theorem q2565 : (Jvm.Cond.instanceMethod ({ cls := "CameraMovesModel", name := "removesCue", desc := "(I)V" } : Jvm.MethodName)) ∈ lw_all := lw_g (lw_at lw_m11 58 rfl) rfl
theorem q2566 : (Jvm.Cond.code ({ cls := "CameraMovesModel", name := "removesCue", desc := "(I)V" } : Jvm.MethodName) prog_17_method_111_code (2 : Nat) (Option.none : Option Jvm.ClassFile.FieldType)) ∈ lw_all := lw_g (lw_at lw_m11 59 rfl) rfl
theorem q2567 : (Jvm.Cond.methodLink "CameraMovesModel" (359 : Nat) ({ cls := "CameraMovesModel", name := "removes", desc := "(IIII)V" } : Jvm.MethodName)) ∈ lw_all := lw_g (lw_at lw_m11 60 rfl) rfl
theorem q2568 : (Jvm.Cond.privateMethod ({ cls := "CameraMovesModel", name := "removes", desc := "(IIII)V" } : Jvm.MethodName)) ∈ lw_tbl := lw_at lw_m11 61 rfl
theorem q2569 : (Jvm.Cond.instanceMethod ({ cls := "CameraMovesModel", name := "removes", desc := "(IIII)V" } : Jvm.MethodName)) ∈ lw_all := lw_g (lw_at lw_m11 62 rfl) rfl
theorem q2570 : (Jvm.Cond.code ({ cls := "CameraMovesModel", name := "removes", desc := "(IIII)V" } : Jvm.MethodName) prog_17_method_110_code (6 : Nat) (Option.none : Option Jvm.ClassFile.FieldType)) ∈ lw_all := lw_g (lw_at lw_m11 63 rfl) rfl
theorem q2572 : (Jvm.Cond.instanceMethod ({ cls := "CameraMovesModel", name := "undo", desc := "()I" } : Jvm.MethodName)) ∈ lw_all := lw_g (lw_at lw_m11 65 rfl) rfl
theorem q2573 : (Jvm.Cond.selects "CameraMovesModel" ({ cls := "CameraMovesModel", name := "undo", desc := "()I" } : Jvm.MethodName) ({ cls := "CameraMovesModel", name := "undo", desc := "()I" } : Jvm.MethodName)) ∈ lw_all := lw_g (lw_at lw_m11 66 rfl) rfl
theorem q2574 : (Jvm.Cond.code ({ cls := "CameraMovesModel", name := "undo", desc := "()I" } : Jvm.MethodName) prog_17_method_115_code (1 : Nat) (Option.some Jvm.ClassFile.FieldType.int)) ∈ lw_all := lw_g (lw_at lw_m11 67 rfl) rfl
theorem q2575 : (Jvm.Cond.methodLink "CameraMovesModel" (366 : Nat) ({ cls := "CameraMovesModel", name := "slot", desc := "(I)I" } : Jvm.MethodName)) ∈ lw_all := lw_g (lw_at lw_m11 68 rfl) rfl
theorem q2576 : (Jvm.Cond.privateMethod ({ cls := "CameraMovesModel", name := "slot", desc := "(I)I" } : Jvm.MethodName)) ∈ lw_tbl := lw_at lw_m11 69 rfl
theorem q2577 : (Jvm.Cond.instanceMethod ({ cls := "CameraMovesModel", name := "slot", desc := "(I)I" } : Jvm.MethodName)) ∈ lw_all := lw_g (lw_at lw_m11 70 rfl) rfl
theorem q2578 : (Jvm.Cond.code ({ cls := "CameraMovesModel", name := "slot", desc := "(I)I" } : Jvm.MethodName) prog_17_method_113_code (2 : Nat) (Option.some Jvm.ClassFile.FieldType.int)) ∈ lw_all := lw_g (lw_at lw_m11 71 rfl) rfl
theorem q2580 : (Jvm.Cond.instanceMethod ({ cls := "CameraMovesModel", name := "addCue", desc := "(IIII)I" } : Jvm.MethodName)) ∈ lw_all := lw_g (lw_at lw_m11 73 rfl) rfl
theorem q2581 : (Jvm.Cond.selects "CameraMovesModel" ({ cls := "CameraMovesModel", name := "addCue", desc := "(IIII)I" } : Jvm.MethodName) ({ cls := "CameraMovesModel", name := "addCue", desc := "(IIII)I" } : Jvm.MethodName)) ∈ lw_all := lw_g (lw_at lw_m11 74 rfl) rfl
theorem q2582 : (Jvm.Cond.code ({ cls := "CameraMovesModel", name := "addCue", desc := "(IIII)I" } : Jvm.MethodName) prog_17_method_116_code (6 : Nat) (Option.some Jvm.ClassFile.FieldType.int)) ∈ lw_all := lw_g (lw_at lw_m11 75 rfl) rfl
theorem q2583 : (Jvm.Cond.methodLink "CameraMovesModel" (369 : Nat) ({ cls := "CameraMovesModel", name := "keep", desc := "()V" } : Jvm.MethodName)) ∈ lw_all := lw_g (lw_at lw_m11 76 rfl) rfl
theorem q2584 : (Jvm.Cond.privateMethod ({ cls := "CameraMovesModel", name := "keep", desc := "()V" } : Jvm.MethodName)) ∈ lw_tbl := lw_at lw_m11 77 rfl
theorem q2585 : (Jvm.Cond.instanceMethod ({ cls := "CameraMovesModel", name := "keep", desc := "()V" } : Jvm.MethodName)) ∈ lw_all := lw_g (lw_at lw_m11 78 rfl) rfl
theorem q2586 : (Jvm.Cond.code ({ cls := "CameraMovesModel", name := "keep", desc := "()V" } : Jvm.MethodName) prog_17_method_114_code (1 : Nat) (Option.none : Option Jvm.ClassFile.FieldType)) ∈ lw_all := lw_g (lw_at lw_m11 79 rfl) rfl
theorem q2588 : (Jvm.Cond.instanceMethod ({ cls := "CameraMovesModel", name := "setTarget", desc := "(III)I" } : Jvm.MethodName)) ∈ lw_all := lw_g (lw_at lw_m11 81 rfl) rfl
theorem q2589 : (Jvm.Cond.selects "CameraMovesModel" ({ cls := "CameraMovesModel", name := "setTarget", desc := "(III)I" } : Jvm.MethodName) ({ cls := "CameraMovesModel", name := "setTarget", desc := "(III)I" } : Jvm.MethodName)) ∈ lw_all := lw_g (lw_at lw_m11 82 rfl) rfl
theorem q2590 : (Jvm.Cond.code ({ cls := "CameraMovesModel", name := "setTarget", desc := "(III)I" } : Jvm.MethodName) prog_17_method_118_code (4 : Nat) (Option.some Jvm.ClassFile.FieldType.int)) ∈ lw_all := lw_g (lw_at lw_m11 83 rfl) rfl
theorem q2591 : (Jvm.Cond.methodLink "CameraMovesModel" (372 : Nat) ({ cls := "CameraMovesModel", name := "ones", desc := "(I)I" } : Jvm.MethodName)) ∈ lw_all := lw_g (lw_at lw_m11 84 rfl) rfl
theorem q2592 : (Jvm.Cond.privateMethod ({ cls := "CameraMovesModel", name := "ones", desc := "(I)I" } : Jvm.MethodName)) ∈ lw_tbl := lw_at lw_m11 85 rfl
theorem q2593 : (Jvm.Cond.instanceMethod ({ cls := "CameraMovesModel", name := "ones", desc := "(I)I" } : Jvm.MethodName)) ∈ lw_all := lw_g (lw_at lw_m11 86 rfl) rfl
theorem q2594 : (Jvm.Cond.code ({ cls := "CameraMovesModel", name := "ones", desc := "(I)I" } : Jvm.MethodName) prog_17_method_117_code (4 : Nat) (Option.some Jvm.ClassFile.FieldType.int)) ∈ lw_all := lw_g (lw_at lw_m11 87 rfl) rfl
theorem q2596 : (Jvm.Cond.instanceMethod ({ cls := "CameraMovesModel", name := "removeTarget", desc := "(II)I" } : Jvm.MethodName)) ∈ lw_all := lw_g (lw_at lw_m11 89 rfl) rfl
theorem q2597 : (Jvm.Cond.selects "CameraMovesModel" ({ cls := "CameraMovesModel", name := "removeTarget", desc := "(II)I" } : Jvm.MethodName) ({ cls := "CameraMovesModel", name := "removeTarget", desc := "(II)I" } : Jvm.MethodName)) ∈ lw_all := lw_g (lw_at lw_m11 90 rfl) rfl
theorem q2598 : (Jvm.Cond.code ({ cls := "CameraMovesModel", name := "removeTarget", desc := "(II)I" } : Jvm.MethodName) prog_17_method_119_code (3 : Nat) (Option.some Jvm.ClassFile.FieldType.int)) ∈ lw_all := lw_g (lw_at lw_m11 91 rfl) rfl
theorem q2600 : (Jvm.Cond.instanceMethod ({ cls := "CameraMovesModel", name := "removeCue", desc := "(I)I" } : Jvm.MethodName)) ∈ lw_all := lw_g (lw_at lw_m11 93 rfl) rfl
theorem q2601 : (Jvm.Cond.selects "CameraMovesModel" ({ cls := "CameraMovesModel", name := "removeCue", desc := "(I)I" } : Jvm.MethodName) ({ cls := "CameraMovesModel", name := "removeCue", desc := "(I)I" } : Jvm.MethodName)) ∈ lw_all := lw_g (lw_at lw_m11 94 rfl) rfl
theorem q2602 : (Jvm.Cond.code ({ cls := "CameraMovesModel", name := "removeCue", desc := "(I)I" } : Jvm.MethodName) prog_17_method_120_code (2 : Nat) (Option.some Jvm.ClassFile.FieldType.int)) ∈ lw_all := lw_g (lw_at lw_m11 95 rfl) rfl
theorem q2604 : (Jvm.Cond.instanceMethod ({ cls := "CameraMovesModel", name := "moveCue", desc := "(II)I" } : Jvm.MethodName)) ∈ lw_all := lw_g (lw_at lw_m11 97 rfl) rfl
theorem q2605 : (Jvm.Cond.selects "CameraMovesModel" ({ cls := "CameraMovesModel", name := "moveCue", desc := "(II)I" } : Jvm.MethodName) ({ cls := "CameraMovesModel", name := "moveCue", desc := "(II)I" } : Jvm.MethodName)) ∈ lw_all := lw_g (lw_at lw_m11 98 rfl) rfl
theorem q2606 : (Jvm.Cond.code ({ cls := "CameraMovesModel", name := "moveCue", desc := "(II)I" } : Jvm.MethodName) prog_17_method_122_code (3 : Nat) (Option.some Jvm.ClassFile.FieldType.int)) ∈ lw_all := lw_g (lw_at lw_m11 99 rfl) rfl
theorem q2607 : (Jvm.Cond.methodLink "CameraMovesModel" (375 : Nat) ({ cls := "CameraMovesModel", name := "change", desc := "(III)I" } : Jvm.MethodName)) ∈ lw_all := lw_g (lw_at lw_m11 100 rfl) rfl
theorem q2608 : (Jvm.Cond.privateMethod ({ cls := "CameraMovesModel", name := "change", desc := "(III)I" } : Jvm.MethodName)) ∈ lw_tbl := lw_at lw_m11 101 rfl
theorem q2609 : (Jvm.Cond.instanceMethod ({ cls := "CameraMovesModel", name := "change", desc := "(III)I" } : Jvm.MethodName)) ∈ lw_all := lw_g (lw_at lw_m11 102 rfl) rfl
theorem q2610 : (Jvm.Cond.code ({ cls := "CameraMovesModel", name := "change", desc := "(III)I" } : Jvm.MethodName) prog_17_method_121_code (5 : Nat) (Option.some Jvm.ClassFile.FieldType.int)) ∈ lw_all := lw_g (lw_at lw_m11 103 rfl) rfl
theorem q2612 : (Jvm.Cond.instanceMethod ({ cls := "CameraMovesModel", name := "setLength", desc := "(II)I" } : Jvm.MethodName)) ∈ lw_all := lw_g (lw_at lw_m11 105 rfl) rfl
theorem q2613 : (Jvm.Cond.selects "CameraMovesModel" ({ cls := "CameraMovesModel", name := "setLength", desc := "(II)I" } : Jvm.MethodName) ({ cls := "CameraMovesModel", name := "setLength", desc := "(II)I" } : Jvm.MethodName)) ∈ lw_all := lw_g (lw_at lw_m11 106 rfl) rfl
theorem q2614 : (Jvm.Cond.code ({ cls := "CameraMovesModel", name := "setLength", desc := "(II)I" } : Jvm.MethodName) prog_17_method_123_code (3 : Nat) (Option.some Jvm.ClassFile.FieldType.int)) ∈ lw_all := lw_g (lw_at lw_m11 107 rfl) rfl
theorem q2616 : (Jvm.Cond.instanceMethod ({ cls := "CameraMovesModel", name := "fit", desc := "(I)I" } : Jvm.MethodName)) ∈ lw_all := lw_g (lw_at lw_m11 109 rfl) rfl
theorem q2617 : (Jvm.Cond.selects "CameraMovesModel" ({ cls := "CameraMovesModel", name := "fit", desc := "(I)I" } : Jvm.MethodName) ({ cls := "CameraMovesModel", name := "fit", desc := "(I)I" } : Jvm.MethodName)) ∈ lw_all := lw_g (lw_at lw_m11 110 rfl) rfl
theorem q2618 : (Jvm.Cond.code ({ cls := "CameraMovesModel", name := "fit", desc := "(I)I" } : Jvm.MethodName) prog_17_method_124_code (4 : Nat) (Option.some Jvm.ClassFile.FieldType.int)) ∈ lw_all := lw_g (lw_at lw_m11 111 rfl) rfl
theorem q2620 : (Jvm.Cond.instanceMethod ({ cls := "CameraMovesModel", name := "setLimits", desc := "(III)I" } : Jvm.MethodName)) ∈ lw_all := lw_g (lw_at lw_m11 113 rfl) rfl
theorem q2621 : (Jvm.Cond.selects "CameraMovesModel" ({ cls := "CameraMovesModel", name := "setLimits", desc := "(III)I" } : Jvm.MethodName) ({ cls := "CameraMovesModel", name := "setLimits", desc := "(III)I" } : Jvm.MethodName)) ∈ lw_all := lw_g (lw_at lw_m11 114 rfl) rfl
theorem q2622 : (Jvm.Cond.code ({ cls := "CameraMovesModel", name := "setLimits", desc := "(III)I" } : Jvm.MethodName) prog_17_method_125_code (4 : Nat) (Option.some Jvm.ClassFile.FieldType.int)) ∈ lw_all := lw_g (lw_at lw_m11 115 rfl) rfl
theorem q2624 : (Jvm.Cond.instanceMethod ({ cls := "CameraMovesModel", name := "addWall", desc := "(IIIIII)I" } : Jvm.MethodName)) ∈ lw_all := lw_g (lw_at lw_m11 117 rfl) rfl
theorem q2625 : (Jvm.Cond.selects "CameraMovesModel" ({ cls := "CameraMovesModel", name := "addWall", desc := "(IIIIII)I" } : Jvm.MethodName) ({ cls := "CameraMovesModel", name := "addWall", desc := "(IIIIII)I" } : Jvm.MethodName)) ∈ lw_all := lw_g (lw_at lw_m11 118 rfl) rfl
theorem q2626 : (Jvm.Cond.code ({ cls := "CameraMovesModel", name := "addWall", desc := "(IIIIII)I" } : Jvm.MethodName) prog_17_method_126_code (9 : Nat) (Option.some Jvm.ClassFile.FieldType.int)) ∈ lw_all := lw_g (lw_at lw_m11 119 rfl) rfl
theorem q2628 : (Jvm.Cond.instanceMethod ({ cls := "CameraMovesModel", name := "removeWall", desc := "(I)I" } : Jvm.MethodName)) ∈ lw_all := lw_g (lw_at lw_m11 121 rfl) rfl
theorem q2629 : (Jvm.Cond.selects "CameraMovesModel" ({ cls := "CameraMovesModel", name := "removeWall", desc := "(I)I" } : Jvm.MethodName) ({ cls := "CameraMovesModel", name := "removeWall", desc := "(I)I" } : Jvm.MethodName)) ∈ lw_all := lw_g (lw_at lw_m11 122 rfl) rfl
theorem q2630 : (Jvm.Cond.code ({ cls := "CameraMovesModel", name := "removeWall", desc := "(I)I" } : Jvm.MethodName) prog_17_method_127_code (2 : Nat) (Option.some Jvm.ClassFile.FieldType.int)) ∈ lw_all := lw_g (lw_at lw_m11 123 rfl) rfl
theorem q2632 : (Jvm.Cond.instanceMethod ({ cls := "CameraMovesModel", name := "format", desc := "(I)I" } : Jvm.MethodName)) ∈ lw_all := lw_g (lw_at lw_m11 125 rfl) rfl
theorem q2633 : (Jvm.Cond.selects "CameraMovesModel" ({ cls := "CameraMovesModel", name := "format", desc := "(I)I" } : Jvm.MethodName) ({ cls := "CameraMovesModel", name := "format", desc := "(I)I" } : Jvm.MethodName)) ∈ lw_all := lw_g (lw_at lw_m11 126 rfl) rfl
theorem q2634 : (Jvm.Cond.code ({ cls := "CameraMovesModel", name := "format", desc := "(I)I" } : Jvm.MethodName) prog_17_method_131_code (4 : Nat) (Option.some Jvm.ClassFile.FieldType.int)) ∈ lw_all := lw_g (lw_at lw_m11 127 rfl) rfl
theorem q2635 : (Jvm.Cond.methodLink "CameraMovesModel" (381 : Nat) ({ cls := "CameraMovesModel", name := "say", desc := "(I)V" } : Jvm.MethodName)) ∈ lw_all := lw_g (lw_at lw_m11 128 rfl) rfl
theorem q2636 : (Jvm.Cond.privateMethod ({ cls := "CameraMovesModel", name := "say", desc := "(I)V" } : Jvm.MethodName)) ∈ lw_tbl := lw_at lw_m11 129 rfl
theorem q2637 : (Jvm.Cond.instanceMethod ({ cls := "CameraMovesModel", name := "say", desc := "(I)V" } : Jvm.MethodName)) ∈ lw_all := lw_g (lw_at lw_m11 130 rfl) rfl
theorem q2638 : (Jvm.Cond.code ({ cls := "CameraMovesModel", name := "say", desc := "(I)V" } : Jvm.MethodName) prog_17_method_128_code (2 : Nat) (Option.none : Option Jvm.ClassFile.FieldType)) ∈ lw_all := lw_g (lw_at lw_m11 131 rfl) rfl
theorem q2639 : (Jvm.Cond.methodLink "CameraMovesModel" (386 : Nat) ({ cls := "CameraMovesModel", name := "sayName", desc := "(J)V" } : Jvm.MethodName)) ∈ lw_all := lw_g (lw_at lw_m11 132 rfl) rfl
theorem q2640 : (Jvm.Cond.privateMethod ({ cls := "CameraMovesModel", name := "sayName", desc := "(J)V" } : Jvm.MethodName)) ∈ lw_tbl := lw_at lw_m11 133 rfl
theorem q2641 : (Jvm.Cond.instanceMethod ({ cls := "CameraMovesModel", name := "sayName", desc := "(J)V" } : Jvm.MethodName)) ∈ lw_all := lw_g (lw_at lw_m11 134 rfl) rfl
theorem q2642 : (Jvm.Cond.code ({ cls := "CameraMovesModel", name := "sayName", desc := "(J)V" } : Jvm.MethodName) prog_17_method_130_code (5 : Nat) (Option.none : Option Jvm.ClassFile.FieldType)) ∈ lw_all := lw_g (lw_at lw_m11 135 rfl) rfl
theorem q2643 : (Jvm.Cond.constantLong "CameraMovesModel" (384 : Nat) (31 : Int64)) ∈ lw_all := lw_g (lw_at lw_m11 136 rfl) rfl
theorem q2644 : (Jvm.Cond.methodLink "CameraMovesModel" (390 : Nat) ({ cls := "CameraMovesModel", name := "sayNumber", desc := "(I)V" } : Jvm.MethodName)) ∈ lw_all := lw_g (lw_at lw_m11 137 rfl) rfl
theorem q2645 : (Jvm.Cond.privateMethod ({ cls := "CameraMovesModel", name := "sayNumber", desc := "(I)V" } : Jvm.MethodName)) ∈ lw_tbl := lw_at lw_m11 138 rfl
theorem q2646 : (Jvm.Cond.instanceMethod ({ cls := "CameraMovesModel", name := "sayNumber", desc := "(I)V" } : Jvm.MethodName)) ∈ lw_all := lw_g (lw_at lw_m11 139 rfl) rfl
theorem q2647 : (Jvm.Cond.code ({ cls := "CameraMovesModel", name := "sayNumber", desc := "(I)V" } : Jvm.MethodName) prog_17_method_129_code (3 : Nat) (Option.none : Option Jvm.ClassFile.FieldType)) ∈ lw_all := lw_g (lw_at lw_m11 140 rfl) rfl
theorem q2649 : (Jvm.Cond.instanceMethod ({ cls := "CameraMovesModel", name := "formattedCharacter", desc := "(I)C" } : Jvm.MethodName)) ∈ lw_all := lw_g (lw_at lw_m11 142 rfl) rfl
theorem q2650 : (Jvm.Cond.selects "CameraMovesModel" ({ cls := "CameraMovesModel", name := "formattedCharacter", desc := "(I)C" } : Jvm.MethodName) ({ cls := "CameraMovesModel", name := "formattedCharacter", desc := "(I)C" } : Jvm.MethodName)) ∈ lw_all := lw_g (lw_at lw_m11 143 rfl) rfl
theorem q2651 : (Jvm.Cond.code ({ cls := "CameraMovesModel", name := "formattedCharacter", desc := "(I)C" } : Jvm.MethodName) prog_17_method_132_code (2 : Nat) (Option.some Jvm.ClassFile.FieldType.char)) ∈ lw_all := lw_g (lw_at lw_m11 144 rfl) rfl
theorem q2678 : (Jvm.Cond.castable "CameraMovesModel" "java/lang/Object") ∈ lw_tbl := lw_at lw_m11 171 rfl
theorem in_X4 : ∀ w ∈ wsX40, w ∈ lw_all := lw_in wsX40 [2067, 2069, 2071, 2073, 2075, 2077, 2079, 2081, 2083, 2085, 2087, 2089, 2091, 2093, 2095, 2097, 2099, 2101, 2103, 2105, 2107, 2109, 2111, 2113, 2115, 2117, 2119, 2121, 2123, 2125, 2127, 2129, 2131, 2133, 2135, 2137] (by decide +kernel) (by decide +kernel)
