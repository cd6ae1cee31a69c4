/-! SandPianoModel -/
set_option maxRecDepth 100000
def RX2 : String := "SandPianoModel"
def TX2 : u_T := fun k => match k with
  | 0 => ("SandPianoModel", "latest", "I", false)
  | 1 => ("SandPianoModel", "came", "[I", true)
  | 2 => ("SandPianoModel", "asked", "I", false)
  | 3 => ("SandPianoModel", "upper", "J", false)
  | 4 => ("SandPianoModel", "lower", "J", false)
  | 5 => ("SandPianoModel", "sizes", "[I", true)
  | 6 => ("SandPianoModel", "rows", "[I", true)
  | 7 => ("SandPianoModel", "copied", "[I", true)
  | 8 => ("SandPianoModel", "textSizes", "[I", true)
  | 9 => ("SandPianoModel", "bytes", "[B", true)
  | 10 => ("SandPianoModel", "spadeNow", "I", false)
  | 11 => ("SandPianoModel", "n", "I", false)
  | 12 => ("SandPianoModel", "kinds", "[I", true)
  | 13 => ("SandPianoModel", "strengths", "[I", true)
  | 14 => ("SandPianoModel", "pays", "[I", true)
  | 15 => ("SandPianoModel", "readAt", "I", false)
  | 16 => ("SandPianoModel", "readNumber", "I", false)
  | 17 => ("SandPianoModel", "readSpade", "I", false)
  | 18 => ("SandPianoModel", "readMany", "I", false)
  | 19 => ("SandPianoModel", "readKeys", "[I", true)
  | 20 => ("SandPianoModel", "pianos", "[I", true)
  | 21 => ("SandPianoModel", "deedMany", "I", false)
  | 22 => ("SandPianoModel", "deeds", "[I", true)
  | 23 => ("SandPianoModel", "isKept", "[Z", true)
  | 24 => ("SandPianoModel", "keptMany", "[I", true)
  | 25 => ("SandPianoModel", "keptSpade", "[I", true)
  | 26 => ("SandPianoModel", "keptNow", "[I", true)
  | 27 => ("SandPianoModel", "keptDeeds", "[I", true)
  | 28 => ("SandPianoModel", "tried", "[I", true)
  | 29 => ("SandPianoModel", "bestTried", "[I", true)
  | 30 => ("SandPianoModel", "bestMany", "I", false)
  | 31 => ("SandPianoModel", "bestEarned", "I", false)
  | 32 => ("SandPianoModel", "rowMany", "I", false)
  | 33 => ("SandPianoModel", "sandMany", "I", false)
  | 34 => ("SandPianoModel", "sands", "[I", true)
  | _ => ("SandPianoModel", "hash", "J", false)
def tyX2 : Nat → FieldType := fun k => match k with
  | 0 => .int
  | 1 => .array .int
  | 2 => .int
  | 3 => .long
  | 4 => .long
  | 5 => .array .int
  | 6 => .array .int
  | 7 => .array .int
  | 8 => .array .int
  | 9 => .array .byte
  | 10 => .int
  | 11 => .int
  | 12 => .array .int
  | 13 => .array .int
  | 14 => .array .int
  | 15 => .int
  | 16 => .int
  | 17 => .int
  | 18 => .int
  | 19 => .array .int
  | 20 => .array .int
  | 21 => .int
  | 22 => .array .int
  | 23 => .array .boolean
  | 24 => .array .int
  | 25 => .array .int
  | 26 => .array .int
  | 27 => .array .int
  | 28 => .array .int
  | 29 => .array .int
  | 30 => .int
  | 31 => .int
  | 32 => .int
  | 33 => .int
  | 34 => .array .int
  | _ => .long
abbrev wsX20 : List Cond := u_ws RX2 TX2 36
set_option maxRecDepth 100000 in
theorem nmX2 : ∀ a, a < 36 → ∀ b, b < 36 → a ≠ b → (TX2 a).2.1 ≠ (TX2 b).2.1 := by decide +kernel
set_option maxRecDepth 100000 in
theorem tyX2_ok : ∀ k, k < 36 → parseFieldDescriptor (TX2 k).2.2.1 = some (tyX2 k) := by decide +kernel
abbrev cX2_init : ByteArray := prog_11_method_1_code
def yX2_init : MethodName := ⟨RX2, "<init>", "()V"⟩
def dkwX2_init_9 : List UInt8 := [2, 79, 132, 1, 1, 167, 255, 241, 177]
abbrev dktX2_init_9 : List UInt8 := dkwX2_init_9 ++ []
def dkwX2_init_8 : List UInt8 := [180, 0, 17, 27, 2, 79, 132, 1, 1, 167, 255, 240, 3, 60, 27, 7, 162, 0, 16, 42, 180, 0, 26, 27]
abbrev dktX2_init_8 : List UInt8 := dkwX2_init_8 ++ dktX2_init_9
def dkwX2_init_7 : List UInt8 := [42, 17, 30, 96, 188, 10, 181, 0, 73, 42, 4, 181, 0, 76, 3, 60, 27, 16, 6, 162, 0, 16, 42]
abbrev dktX2_init_7 : List UInt8 := dkwX2_init_7 ++ dktX2_init_8
def dkwX2_init_6 : List UInt8 := [17, 6, 84, 188, 10, 181, 0, 64, 42, 16, 12, 188, 10, 181, 0, 67, 42, 16, 12, 188, 10, 181, 0, 70]
abbrev dktX2_init_6 : List UInt8 := dkwX2_init_6 ++ dktX2_init_7
def dkwX2_init_5 : List UInt8 := [42, 6, 188, 10, 181, 0, 55, 42, 6, 188, 10, 181, 0, 58, 42, 16, 27, 188, 10, 181, 0, 61, 42]
abbrev dktX2_init_5 : List UInt8 := dkwX2_init_5 ++ dktX2_init_6
def dkwX2_init_4 : List UInt8 := [17, 0, 135, 188, 10, 181, 0, 45, 42, 17, 2, 28, 188, 10, 181, 0, 48, 42, 6, 188, 4, 181, 0, 51]
abbrev dktX2_init_4 : List UInt8 := dkwX2_init_4 ++ dktX2_init_5
def dkwX2_init_3 : List UInt8 := [188, 10, 181, 0, 36, 42, 16, 6, 188, 10, 181, 0, 39, 42, 16, 24, 188, 10, 181, 0, 42, 42]
abbrev dktX2_init_3 : List UInt8 := dkwX2_init_3 ++ dktX2_init_4
def dkwX2_init_2 : List UInt8 := [181, 0, 26, 42, 17, 0, 240, 188, 8, 181, 0, 29, 42, 16, 6, 188, 10, 181, 0, 33, 42, 16, 6]
abbrev dktX2_init_2 : List UInt8 := dkwX2_init_2 ++ dktX2_init_3
def dkwX2_init_1 : List UInt8 := [181, 0, 17, 42, 17, 0, 240, 188, 10, 181, 0, 20, 42, 16, 40, 188, 10, 181, 0, 23, 42, 7, 188, 10]
abbrev dktX2_init_1 : List UInt8 := dkwX2_init_1 ++ dktX2_init_2
def dkwX2_init_0 : List UInt8 := [42, 183, 0, 1, 42, 16, 6, 188, 10, 181, 0, 7, 42, 10, 181, 0, 13, 42, 16, 6, 188, 10]
abbrev dktX2_init_0 : List UInt8 := dkwX2_init_0 ++ dktX2_init_1
theorem dksX2_init_0 : cX2_init.data.toList.drop 0 = dktX2_init_0 := by decide +kernel
theorem dksX2_init_1 : cX2_init.data.toList.drop 22 = dktX2_init_1 := dk_seg dksX2_init_0 22 rfl rfl
theorem dksX2_init_2 : cX2_init.data.toList.drop 46 = dktX2_init_2 := dk_seg dksX2_init_1 24 rfl rfl
theorem dksX2_init_3 : cX2_init.data.toList.drop 69 = dktX2_init_3 := dk_seg dksX2_init_2 23 rfl rfl
theorem dksX2_init_4 : cX2_init.data.toList.drop 91 = dktX2_init_4 := dk_seg dksX2_init_3 22 rfl rfl
theorem dksX2_init_5 : cX2_init.data.toList.drop 115 = dktX2_init_5 := dk_seg dksX2_init_4 24 rfl rfl
theorem dksX2_init_6 : cX2_init.data.toList.drop 138 = dktX2_init_6 := dk_seg dksX2_init_5 23 rfl rfl
theorem dksX2_init_7 : cX2_init.data.toList.drop 162 = dktX2_init_7 := dk_seg dksX2_init_6 24 rfl rfl
theorem dksX2_init_8 : cX2_init.data.toList.drop 185 = dktX2_init_8 := dk_seg dksX2_init_7 23 rfl rfl
theorem dksX2_init_9 : cX2_init.data.toList.drop 209 = dktX2_init_9 := dk_seg dksX2_init_8 24 rfl rfl
theorem dX2_init_0 : decode cX2_init 0 = .ok (.aload_n 0, 1) := dk_42 (dk_at dksX2_init_0 0 rfl rfl)
theorem dX2_init_1 : decode cX2_init 1 = .ok (.invokespecial 1, 3) := dk_183 0 1 (dk_at dksX2_init_0 1 rfl rfl)
theorem dX2_init_4 : decode cX2_init 4 = .ok (.aload_n 0, 1) := dk_42 (dk_at dksX2_init_0 4 rfl rfl)
theorem dX2_init_5 : decode cX2_init 5 = .ok (.bipush 6, 2) := dk_16 6 (dk_at dksX2_init_0 5 rfl rfl)
theorem dX2_init_7 : decode cX2_init 7 = .ok (.newarray .int, 2) := dk_188_10 (dk_at dksX2_init_0 7 rfl rfl)
theorem dX2_init_9 : decode cX2_init 9 = .ok (.putfield 7, 3) := dk_181 0 7 (dk_at dksX2_init_0 9 rfl rfl)
theorem dX2_init_12 : decode cX2_init 12 = .ok (.aload_n 0, 1) := dk_42 (dk_at dksX2_init_0 12 rfl rfl)
theorem dX2_init_13 : decode cX2_init 13 = .ok (.lconst 1, 1) := dk_10 (dk_at dksX2_init_0 13 rfl rfl)
theorem dX2_init_14 : decode cX2_init 14 = .ok (.putfield 13, 3) := dk_181 0 13 (dk_at dksX2_init_0 14 rfl rfl)
theorem dX2_init_17 : decode cX2_init 17 = .ok (.aload_n 0, 1) := dk_42 (dk_at dksX2_init_0 17 rfl rfl)
theorem dX2_init_18 : decode cX2_init 18 = .ok (.bipush 6, 2) := dk_16 6 (dk_at dksX2_init_0 18 rfl rfl)
theorem dX2_init_20 : decode cX2_init 20 = .ok (.newarray .int, 2) := dk_188_10 (dk_at dksX2_init_0 20 rfl rfl)
theorem dX2_init_22 : decode cX2_init 22 = .ok (.putfield 17, 3) := dk_181 0 17 (dk_at dksX2_init_1 0 rfl rfl)
theorem dX2_init_25 : decode cX2_init 25 = .ok (.aload_n 0, 1) := dk_42 (dk_at dksX2_init_1 3 rfl rfl)
theorem dX2_init_26 : decode cX2_init 26 = .ok (.sipush 240, 3) := dk_17 0 240 (dk_at dksX2_init_1 4 rfl rfl)
theorem dX2_init_29 : decode cX2_init 29 = .ok (.newarray .int, 2) := dk_188_10 (dk_at dksX2_init_1 7 rfl rfl)
theorem dX2_init_31 : decode cX2_init 31 = .ok (.putfield 20, 3) := dk_181 0 20 (dk_at dksX2_init_1 9 rfl rfl)
theorem dX2_init_34 : decode cX2_init 34 = .ok (.aload_n 0, 1) := dk_42 (dk_at dksX2_init_1 12 rfl rfl)
theorem dX2_init_35 : decode cX2_init 35 = .ok (.bipush 40, 2) := dk_16 40 (dk_at dksX2_init_1 13 rfl rfl)
theorem dX2_init_37 : decode cX2_init 37 = .ok (.newarray .int, 2) := dk_188_10 (dk_at dksX2_init_1 15 rfl rfl)
theorem dX2_init_39 : decode cX2_init 39 = .ok (.putfield 23, 3) := dk_181 0 23 (dk_at dksX2_init_1 17 rfl rfl)
theorem dX2_init_42 : decode cX2_init 42 = .ok (.aload_n 0, 1) := dk_42 (dk_at dksX2_init_1 20 rfl rfl)
theorem dX2_init_43 : decode cX2_init 43 = .ok (.iconst 4, 1) := dk_7 (dk_at dksX2_init_1 21 rfl rfl)
theorem dX2_init_44 : decode cX2_init 44 = .ok (.newarray .int, 2) := dk_188_10 (dk_at dksX2_init_1 22 rfl rfl)
theorem dX2_init_46 : decode cX2_init 46 = .ok (.putfield 26, 3) := dk_181 0 26 (dk_at dksX2_init_2 0 rfl rfl)
theorem dX2_init_49 : decode cX2_init 49 = .ok (.aload_n 0, 1) := dk_42 (dk_at dksX2_init_2 3 rfl rfl)
theorem dX2_init_50 : decode cX2_init 50 = .ok (.sipush 240, 3) := dk_17 0 240 (dk_at dksX2_init_2 4 rfl rfl)
theorem dX2_init_53 : decode cX2_init 53 = .ok (.newarray .byte, 2) := dk_188_8 (dk_at dksX2_init_2 7 rfl rfl)
theorem dX2_init_55 : decode cX2_init 55 = .ok (.putfield 29, 3) := dk_181 0 29 (dk_at dksX2_init_2 9 rfl rfl)
theorem dX2_init_58 : decode cX2_init 58 = .ok (.aload_n 0, 1) := dk_42 (dk_at dksX2_init_2 12 rfl rfl)
theorem dX2_init_59 : decode cX2_init 59 = .ok (.bipush 6, 2) := dk_16 6 (dk_at dksX2_init_2 13 rfl rfl)
theorem dX2_init_61 : decode cX2_init 61 = .ok (.newarray .int, 2) := dk_188_10 (dk_at dksX2_init_2 15 rfl rfl)
theorem dX2_init_63 : decode cX2_init 63 = .ok (.putfield 33, 3) := dk_181 0 33 (dk_at dksX2_init_2 17 rfl rfl)
theorem dX2_init_66 : decode cX2_init 66 = .ok (.aload_n 0, 1) := dk_42 (dk_at dksX2_init_2 20 rfl rfl)
theorem dX2_init_67 : decode cX2_init 67 = .ok (.bipush 6, 2) := dk_16 6 (dk_at dksX2_init_2 21 rfl rfl)
theorem dX2_init_69 : decode cX2_init 69 = .ok (.newarray .int, 2) := dk_188_10 (dk_at dksX2_init_3 0 rfl rfl)
theorem dX2_init_71 : decode cX2_init 71 = .ok (.putfield 36, 3) := dk_181 0 36 (dk_at dksX2_init_3 2 rfl rfl)
theorem dX2_init_74 : decode cX2_init 74 = .ok (.aload_n 0, 1) := dk_42 (dk_at dksX2_init_3 5 rfl rfl)
theorem dX2_init_75 : decode cX2_init 75 = .ok (.bipush 6, 2) := dk_16 6 (dk_at dksX2_init_3 6 rfl rfl)
theorem dX2_init_77 : decode cX2_init 77 = .ok (.newarray .int, 2) := dk_188_10 (dk_at dksX2_init_3 8 rfl rfl)
theorem dX2_init_79 : decode cX2_init 79 = .ok (.putfield 39, 3) := dk_181 0 39 (dk_at dksX2_init_3 10 rfl rfl)
theorem dX2_init_82 : decode cX2_init 82 = .ok (.aload_n 0, 1) := dk_42 (dk_at dksX2_init_3 13 rfl rfl)
theorem dX2_init_83 : decode cX2_init 83 = .ok (.bipush 24, 2) := dk_16 24 (dk_at dksX2_init_3 14 rfl rfl)
theorem dX2_init_85 : decode cX2_init 85 = .ok (.newarray .int, 2) := dk_188_10 (dk_at dksX2_init_3 16 rfl rfl)
theorem dX2_init_87 : decode cX2_init 87 = .ok (.putfield 42, 3) := dk_181 0 42 (dk_at dksX2_init_3 18 rfl rfl)
theorem dX2_init_90 : decode cX2_init 90 = .ok (.aload_n 0, 1) := dk_42 (dk_at dksX2_init_3 21 rfl rfl)
theorem dX2_init_91 : decode cX2_init 91 = .ok (.sipush 135, 3) := dk_17 0 135 (dk_at dksX2_init_4 0 rfl rfl)
theorem dX2_init_94 : decode cX2_init 94 = .ok (.newarray .int, 2) := dk_188_10 (dk_at dksX2_init_4 3 rfl rfl)
theorem dX2_init_96 : decode cX2_init 96 = .ok (.putfield 45, 3) := dk_181 0 45 (dk_at dksX2_init_4 5 rfl rfl)
theorem dX2_init_99 : decode cX2_init 99 = .ok (.aload_n 0, 1) := dk_42 (dk_at dksX2_init_4 8 rfl rfl)
theorem dX2_init_100 : decode cX2_init 100 = .ok (.sipush 540, 3) := dk_17 2 28 (dk_at dksX2_init_4 9 rfl rfl)
theorem dX2_init_103 : decode cX2_init 103 = .ok (.newarray .int, 2) := dk_188_10 (dk_at dksX2_init_4 12 rfl rfl)
theorem dX2_init_105 : decode cX2_init 105 = .ok (.putfield 48, 3) := dk_181 0 48 (dk_at dksX2_init_4 14 rfl rfl)
theorem dX2_init_108 : decode cX2_init 108 = .ok (.aload_n 0, 1) := dk_42 (dk_at dksX2_init_4 17 rfl rfl)
theorem dX2_init_109 : decode cX2_init 109 = .ok (.iconst 3, 1) := dk_6 (dk_at dksX2_init_4 18 rfl rfl)
theorem dX2_init_110 : decode cX2_init 110 = .ok (.newarray .boolean, 2) := dk_188_4 (dk_at dksX2_init_4 19 rfl rfl)
theorem dX2_init_112 : decode cX2_init 112 = .ok (.putfield 51, 3) := dk_181 0 51 (dk_at dksX2_init_4 21 rfl rfl)
theorem dX2_init_115 : decode cX2_init 115 = .ok (.aload_n 0, 1) := dk_42 (dk_at dksX2_init_5 0 rfl rfl)
theorem dX2_init_116 : decode cX2_init 116 = .ok (.iconst 3, 1) := dk_6 (dk_at dksX2_init_5 1 rfl rfl)
theorem dX2_init_117 : decode cX2_init 117 = .ok (.newarray .int, 2) := dk_188_10 (dk_at dksX2_init_5 2 rfl rfl)
theorem dX2_init_119 : decode cX2_init 119 = .ok (.putfield 55, 3) := dk_181 0 55 (dk_at dksX2_init_5 4 rfl rfl)
theorem dX2_init_122 : decode cX2_init 122 = .ok (.aload_n 0, 1) := dk_42 (dk_at dksX2_init_5 7 rfl rfl)
theorem dX2_init_123 : decode cX2_init 123 = .ok (.iconst 3, 1) := dk_6 (dk_at dksX2_init_5 8 rfl rfl)
theorem dX2_init_124 : decode cX2_init 124 = .ok (.newarray .int, 2) := dk_188_10 (dk_at dksX2_init_5 9 rfl rfl)
theorem dX2_init_126 : decode cX2_init 126 = .ok (.putfield 58, 3) := dk_181 0 58 (dk_at dksX2_init_5 11 rfl rfl)
theorem dX2_init_129 : decode cX2_init 129 = .ok (.aload_n 0, 1) := dk_42 (dk_at dksX2_init_5 14 rfl rfl)
theorem dX2_init_130 : decode cX2_init 130 = .ok (.bipush 27, 2) := dk_16 27 (dk_at dksX2_init_5 15 rfl rfl)
theorem dX2_init_132 : decode cX2_init 132 = .ok (.newarray .int, 2) := dk_188_10 (dk_at dksX2_init_5 17 rfl rfl)
theorem dX2_init_134 : decode cX2_init 134 = .ok (.putfield 61, 3) := dk_181 0 61 (dk_at dksX2_init_5 19 rfl rfl)
theorem dX2_init_137 : decode cX2_init 137 = .ok (.aload_n 0, 1) := dk_42 (dk_at dksX2_init_5 22 rfl rfl)
theorem dX2_init_138 : decode cX2_init 138 = .ok (.sipush 1620, 3) := dk_17 6 84 (dk_at dksX2_init_6 0 rfl rfl)
theorem dX2_init_141 : decode cX2_init 141 = .ok (.newarray .int, 2) := dk_188_10 (dk_at dksX2_init_6 3 rfl rfl)
theorem dX2_init_143 : decode cX2_init 143 = .ok (.putfield 64, 3) := dk_181 0 64 (dk_at dksX2_init_6 5 rfl rfl)
theorem dX2_init_146 : decode cX2_init 146 = .ok (.aload_n 0, 1) := dk_42 (dk_at dksX2_init_6 8 rfl rfl)
theorem dX2_init_147 : decode cX2_init 147 = .ok (.bipush 12, 2) := dk_16 12 (dk_at dksX2_init_6 9 rfl rfl)
theorem dX2_init_149 : decode cX2_init 149 = .ok (.newarray .int, 2) := dk_188_10 (dk_at dksX2_init_6 11 rfl rfl)
theorem dX2_init_151 : decode cX2_init 151 = .ok (.putfield 67, 3) := dk_181 0 67 (dk_at dksX2_init_6 13 rfl rfl)
theorem dX2_init_154 : decode cX2_init 154 = .ok (.aload_n 0, 1) := dk_42 (dk_at dksX2_init_6 16 rfl rfl)
theorem dX2_init_155 : decode cX2_init 155 = .ok (.bipush 12, 2) := dk_16 12 (dk_at dksX2_init_6 17 rfl rfl)
theorem dX2_init_157 : decode cX2_init 157 = .ok (.newarray .int, 2) := dk_188_10 (dk_at dksX2_init_6 19 rfl rfl)
theorem dX2_init_159 : decode cX2_init 159 = .ok (.putfield 70, 3) := dk_181 0 70 (dk_at dksX2_init_6 21 rfl rfl)
theorem dX2_init_162 : decode cX2_init 162 = .ok (.aload_n 0, 1) := dk_42 (dk_at dksX2_init_7 0 rfl rfl)
theorem dX2_init_163 : decode cX2_init 163 = .ok (.sipush 7776, 3) := dk_17 30 96 (dk_at dksX2_init_7 1 rfl rfl)
theorem dX2_init_166 : decode cX2_init 166 = .ok (.newarray .int, 2) := dk_188_10 (dk_at dksX2_init_7 4 rfl rfl)
theorem dX2_init_168 : decode cX2_init 168 = .ok (.putfield 73, 3) := dk_181 0 73 (dk_at dksX2_init_7 6 rfl rfl)
theorem dX2_init_171 : decode cX2_init 171 = .ok (.aload_n 0, 1) := dk_42 (dk_at dksX2_init_7 9 rfl rfl)
theorem dX2_init_172 : decode cX2_init 172 = .ok (.iconst 1, 1) := dk_4 (dk_at dksX2_init_7 10 rfl rfl)
theorem dX2_init_173 : decode cX2_init 173 = .ok (.putfield 76, 3) := dk_181 0 76 (dk_at dksX2_init_7 11 rfl rfl)
theorem dX2_init_176 : decode cX2_init 176 = .ok (.iconst 0, 1) := dk_3 (dk_at dksX2_init_7 14 rfl rfl)
theorem dX2_init_177 : decode cX2_init 177 = .ok (.istore_n 1, 1) := dk_60 (dk_at dksX2_init_7 15 rfl rfl)
theorem dX2_init_178 : decode cX2_init 178 = .ok (.iload_n 1, 1) := dk_27 (dk_at dksX2_init_7 16 rfl rfl)
theorem dX2_init_179 : decode cX2_init 179 = .ok (.bipush 6, 2) := dk_16 6 (dk_at dksX2_init_7 17 rfl rfl)
theorem dX2_init_181 : decode cX2_init 181 = .ok (.if_icmp .ge 16, 3) := dk_162 0 16 (dk_at dksX2_init_7 19 rfl rfl)
theorem dX2_init_184 : decode cX2_init 184 = .ok (.aload_n 0, 1) := dk_42 (dk_at dksX2_init_7 22 rfl rfl)
theorem dX2_init_185 : decode cX2_init 185 = .ok (.getfield 17, 3) := dk_180 0 17 (dk_at dksX2_init_8 0 rfl rfl)
theorem dX2_init_188 : decode cX2_init 188 = .ok (.iload_n 1, 1) := dk_27 (dk_at dksX2_init_8 3 rfl rfl)
theorem dX2_init_189 : decode cX2_init 189 = .ok (.iconst (-1), 1) := dk_2 (dk_at dksX2_init_8 4 rfl rfl)
theorem dX2_init_190 : decode cX2_init 190 = .ok (.iastore, 1) := dk_79 (dk_at dksX2_init_8 5 rfl rfl)
theorem dX2_init_191 : decode cX2_init 191 = .ok (.iinc 1 1, 3) := dk_132 1 1 (dk_at dksX2_init_8 6 rfl rfl)
theorem dX2_init_194 : decode cX2_init 194 = .ok (.goto (-16), 3) := dk_167 255 240 (dk_at dksX2_init_8 9 rfl rfl)
theorem dX2_init_197 : decode cX2_init 197 = .ok (.iconst 0, 1) := dk_3 (dk_at dksX2_init_8 12 rfl rfl)
theorem dX2_init_198 : decode cX2_init 198 = .ok (.istore_n 1, 1) := dk_60 (dk_at dksX2_init_8 13 rfl rfl)
theorem dX2_init_199 : decode cX2_init 199 = .ok (.iload_n 1, 1) := dk_27 (dk_at dksX2_init_8 14 rfl rfl)
theorem dX2_init_200 : decode cX2_init 200 = .ok (.iconst 4, 1) := dk_7 (dk_at dksX2_init_8 15 rfl rfl)
theorem dX2_init_201 : decode cX2_init 201 = .ok (.if_icmp .ge 16, 3) := dk_162 0 16 (dk_at dksX2_init_8 16 rfl rfl)
theorem dX2_init_204 : decode cX2_init 204 = .ok (.aload_n 0, 1) := dk_42 (dk_at dksX2_init_8 19 rfl rfl)
theorem dX2_init_205 : decode cX2_init 205 = .ok (.getfield 26, 3) := dk_180 0 26 (dk_at dksX2_init_8 20 rfl rfl)
theorem dX2_init_208 : decode cX2_init 208 = .ok (.iload_n 1, 1) := dk_27 (dk_at dksX2_init_8 23 rfl rfl)
theorem dX2_init_209 : decode cX2_init 209 = .ok (.iconst (-1), 1) := dk_2 (dk_at dksX2_init_9 0 rfl rfl)
theorem dX2_init_210 : decode cX2_init 210 = .ok (.iastore, 1) := dk_79 (dk_at dksX2_init_9 1 rfl rfl)
theorem dX2_init_211 : decode cX2_init 211 = .ok (.iinc 1 1, 3) := dk_132 1 1 (dk_at dksX2_init_9 2 rfl rfl)
theorem dX2_init_214 : decode cX2_init 214 = .ok (.goto (-15), 3) := dk_167 255 241 (dk_at dksX2_init_9 5 rfl rfl)
theorem dX2_init_217 : decode cX2_init 217 = .ok (.return_, 1) := dk_177 (dk_at dksX2_init_9 8 rfl rfl)
abbrev cX2_finding : ByteArray := prog_11_method_8_code
def yX2_finding : MethodName := ⟨RX2, "finding", "()I"⟩
theorem dX2_finding_0 : decode cX2_finding 0 = .ok (.aload_n 0, 1) := by decide +kernel
theorem dX2_finding_1 : decode cX2_finding 1 = .ok (.getfield 80, 3) := by decide +kernel
theorem dX2_finding_4 : decode cX2_finding 4 = .ok (.ireturn, 1) := by decide +kernel
abbrev cX2_findings : ByteArray := prog_11_method_9_code
def yX2_findings : MethodName := ⟨RX2, "findings", "(I)I"⟩
def dkwX2_findings_0 : List UInt8 := [27, 4, 8, 184, 0, 83, 153, 0, 12, 42, 180, 0, 7, 27, 46, 167, 0, 4, 2, 172]
abbrev dktX2_findings_0 : List UInt8 := dkwX2_findings_0 ++ []
theorem dksX2_findings_0 : cX2_findings.data.toList.drop 0 = dktX2_findings_0 := by decide +kernel
theorem dX2_findings_0 : decode cX2_findings 0 = .ok (.iload_n 1, 1) := dk_27 (dk_at dksX2_findings_0 0 rfl rfl)
theorem dX2_findings_1 : decode cX2_findings 1 = .ok (.iconst 1, 1) := dk_4 (dk_at dksX2_findings_0 1 rfl rfl)
theorem dX2_findings_2 : decode cX2_findings 2 = .ok (.iconst 5, 1) := dk_8 (dk_at dksX2_findings_0 2 rfl rfl)
theorem dX2_findings_3 : decode cX2_findings 3 = .ok (.invokestatic 83, 3) := dk_184 0 83 (dk_at dksX2_findings_0 3 rfl rfl)
theorem dX2_findings_6 : decode cX2_findings 6 = .ok (.ifCond .eq 12, 3) := dk_153 0 12 (dk_at dksX2_findings_0 6 rfl rfl)
theorem dX2_findings_9 : decode cX2_findings 9 = .ok (.aload_n 0, 1) := dk_42 (dk_at dksX2_findings_0 9 rfl rfl)
theorem dX2_findings_10 : decode cX2_findings 10 = .ok (.getfield 7, 3) := dk_180 0 7 (dk_at dksX2_findings_0 10 rfl rfl)
theorem dX2_findings_13 : decode cX2_findings 13 = .ok (.iload_n 1, 1) := dk_27 (dk_at dksX2_findings_0 13 rfl rfl)
theorem dX2_findings_14 : decode cX2_findings 14 = .ok (.iaload, 1) := dk_46 (dk_at dksX2_findings_0 14 rfl rfl)
theorem dX2_findings_15 : decode cX2_findings 15 = .ok (.goto 4, 3) := dk_167 0 4 (dk_at dksX2_findings_0 15 rfl rfl)
theorem dX2_findings_18 : decode cX2_findings 18 = .ok (.iconst (-1), 1) := dk_2 (dk_at dksX2_findings_0 18 rfl rfl)
theorem dX2_findings_19 : decode cX2_findings 19 = .ok (.ireturn, 1) := dk_172 (dk_at dksX2_findings_0 19 rfl rfl)
abbrev cX2_in : ByteArray := prog_11_method_2_code
def yX2_in : MethodName := ⟨RX2, "in", "(III)Z"⟩
def dkwX2_in_0 : List UInt8 := [26, 27, 161, 0, 12, 26, 28, 163, 0, 7, 4, 167, 0, 4, 3, 172]
abbrev dktX2_in_0 : List UInt8 := dkwX2_in_0 ++ []
theorem dksX2_in_0 : cX2_in.data.toList.drop 0 = dktX2_in_0 := by decide +kernel
theorem dX2_in_0 : decode cX2_in 0 = .ok (.iload_n 0, 1) := dk_26 (dk_at dksX2_in_0 0 rfl rfl)
theorem dX2_in_1 : decode cX2_in 1 = .ok (.iload_n 1, 1) := dk_27 (dk_at dksX2_in_0 1 rfl rfl)
theorem dX2_in_2 : decode cX2_in 2 = .ok (.if_icmp .lt 12, 3) := dk_161 0 12 (dk_at dksX2_in_0 2 rfl rfl)
theorem dX2_in_5 : decode cX2_in 5 = .ok (.iload_n 0, 1) := dk_26 (dk_at dksX2_in_0 5 rfl rfl)
theorem dX2_in_6 : decode cX2_in 6 = .ok (.iload_n 2, 1) := dk_28 (dk_at dksX2_in_0 6 rfl rfl)
theorem dX2_in_7 : decode cX2_in 7 = .ok (.if_icmp .gt 7, 3) := dk_163 0 7 (dk_at dksX2_in_0 7 rfl rfl)
theorem dX2_in_10 : decode cX2_in 10 = .ok (.iconst 1, 1) := dk_4 (dk_at dksX2_in_0 10 rfl rfl)
theorem dX2_in_11 : decode cX2_in 11 = .ok (.goto 4, 3) := dk_167 0 4 (dk_at dksX2_in_0 11 rfl rfl)
theorem dX2_in_14 : decode cX2_in 14 = .ok (.iconst 0, 1) := dk_3 (dk_at dksX2_in_0 14 rfl rfl)
theorem dX2_in_15 : decode cX2_in 15 = .ok (.ireturn, 1) := dk_172 (dk_at dksX2_in_0 15 rfl rfl)
abbrev cX2_asked : ByteArray := prog_11_method_11_code
def yX2_asked : MethodName := ⟨RX2, "asked", "()I"⟩
theorem dX2_asked_0 : decode cX2_asked 0 = .ok (.aload_n 0, 1) := by decide +kernel
theorem dX2_asked_1 : decode cX2_asked 1 = .ok (.getfield 87, 3) := by decide +kernel
theorem dX2_asked_4 : decode cX2_asked 4 = .ok (.ireturn, 1) := by decide +kernel
abbrev cX2_upper : ByteArray := prog_11_method_13_code
def yX2_upper : MethodName := ⟨RX2, "upper", "()J"⟩
theorem dX2_upper_0 : decode cX2_upper 0 = .ok (.aload_n 0, 1) := by decide +kernel
theorem dX2_upper_1 : decode cX2_upper 1 = .ok (.getfield 90, 3) := by decide +kernel
theorem dX2_upper_4 : decode cX2_upper 4 = .ok (.lreturn, 1) := by decide +kernel
abbrev cX2_lower : ByteArray := prog_11_method_14_code
def yX2_lower : MethodName := ⟨RX2, "lower", "()J"⟩
theorem dX2_lower_0 : decode cX2_lower 0 = .ok (.aload_n 0, 1) := by decide +kernel
theorem dX2_lower_1 : decode cX2_lower 1 = .ok (.getfield 13, 3) := by decide +kernel
theorem dX2_lower_4 : decode cX2_lower 4 = .ok (.lreturn, 1) := by decide +kernel
abbrev cX2_row : ByteArray := prog_11_method_17_code
def yX2_row : MethodName := ⟨RX2, "row", "(II)I"⟩
def dkwX2_row_2 : List UInt8 := [29, 96, 3, 79, 132, 3, 1, 167, 255, 235, 28, 172]
abbrev dktX2_row_2 : List UInt8 := dkwX2_row_2 ++ []
def dkwX2_row_1 : List UInt8 := [172, 42, 180, 0, 17, 27, 28, 79, 3, 62, 29, 16, 40, 162, 0, 21, 42, 180, 0, 20, 16, 40, 27, 104]
abbrev dktX2_row_1 : List UInt8 := dkwX2_row_1 ++ dktX2_row_2
def dkwX2_row_0 : List UInt8 := [27, 184, 0, 93, 153, 0, 9, 28, 16, 40, 164, 0, 5, 2, 172, 28, 156, 0, 9, 42, 8, 182, 0, 97]
abbrev dktX2_row_0 : List UInt8 := dkwX2_row_0 ++ dktX2_row_1
theorem dksX2_row_0 : cX2_row.data.toList.drop 0 = dktX2_row_0 := by decide +kernel
theorem dksX2_row_1 : cX2_row.data.toList.drop 24 = dktX2_row_1 := dk_seg dksX2_row_0 24 rfl rfl
theorem dksX2_row_2 : cX2_row.data.toList.drop 48 = dktX2_row_2 := dk_seg dksX2_row_1 24 rfl rfl
theorem dX2_row_0 : decode cX2_row 0 = .ok (.iload_n 1, 1) := dk_27 (dk_at dksX2_row_0 0 rfl rfl)
theorem dX2_row_1 : decode cX2_row 1 = .ok (.invokestatic 93, 3) := dk_184 0 93 (dk_at dksX2_row_0 1 rfl rfl)
theorem dX2_row_4 : decode cX2_row 4 = .ok (.ifCond .eq 9, 3) := dk_153 0 9 (dk_at dksX2_row_0 4 rfl rfl)
theorem dX2_row_7 : decode cX2_row 7 = .ok (.iload_n 2, 1) := dk_28 (dk_at dksX2_row_0 7 rfl rfl)
theorem dX2_row_8 : decode cX2_row 8 = .ok (.bipush 40, 2) := dk_16 40 (dk_at dksX2_row_0 8 rfl rfl)
theorem dX2_row_10 : decode cX2_row 10 = .ok (.if_icmp .le 5, 3) := dk_164 0 5 (dk_at dksX2_row_0 10 rfl rfl)
theorem dX2_row_13 : decode cX2_row 13 = .ok (.iconst (-1), 1) := dk_2 (dk_at dksX2_row_0 13 rfl rfl)
theorem dX2_row_14 : decode cX2_row 14 = .ok (.ireturn, 1) := dk_172 (dk_at dksX2_row_0 14 rfl rfl)
theorem dX2_row_15 : decode cX2_row 15 = .ok (.iload_n 2, 1) := dk_28 (dk_at dksX2_row_0 15 rfl rfl)
theorem dX2_row_16 : decode cX2_row 16 = .ok (.ifCond .ge 9, 3) := dk_156 0 9 (dk_at dksX2_row_0 16 rfl rfl)
theorem dX2_row_19 : decode cX2_row 19 = .ok (.aload_n 0, 1) := dk_42 (dk_at dksX2_row_0 19 rfl rfl)
theorem dX2_row_20 : decode cX2_row 20 = .ok (.iconst 5, 1) := dk_8 (dk_at dksX2_row_0 20 rfl rfl)
theorem dX2_row_21 : decode cX2_row 21 = .ok (.invokevirtual 97, 3) := dk_182 0 97 (dk_at dksX2_row_0 21 rfl rfl)
theorem dX2_row_24 : decode cX2_row 24 = .ok (.ireturn, 1) := dk_172 (dk_at dksX2_row_1 0 rfl rfl)
theorem dX2_row_25 : decode cX2_row 25 = .ok (.aload_n 0, 1) := dk_42 (dk_at dksX2_row_1 1 rfl rfl)
theorem dX2_row_26 : decode cX2_row 26 = .ok (.getfield 17, 3) := dk_180 0 17 (dk_at dksX2_row_1 2 rfl rfl)
theorem dX2_row_29 : decode cX2_row 29 = .ok (.iload_n 1, 1) := dk_27 (dk_at dksX2_row_1 5 rfl rfl)
theorem dX2_row_30 : decode cX2_row 30 = .ok (.iload_n 2, 1) := dk_28 (dk_at dksX2_row_1 6 rfl rfl)
theorem dX2_row_31 : decode cX2_row 31 = .ok (.iastore, 1) := dk_79 (dk_at dksX2_row_1 7 rfl rfl)
theorem dX2_row_32 : decode cX2_row 32 = .ok (.iconst 0, 1) := dk_3 (dk_at dksX2_row_1 8 rfl rfl)
theorem dX2_row_33 : decode cX2_row 33 = .ok (.istore_n 3, 1) := dk_62 (dk_at dksX2_row_1 9 rfl rfl)
theorem dX2_row_34 : decode cX2_row 34 = .ok (.iload_n 3, 1) := dk_29 (dk_at dksX2_row_1 10 rfl rfl)
theorem dX2_row_35 : decode cX2_row 35 = .ok (.bipush 40, 2) := dk_16 40 (dk_at dksX2_row_1 11 rfl rfl)
theorem dX2_row_37 : decode cX2_row 37 = .ok (.if_icmp .ge 21, 3) := dk_162 0 21 (dk_at dksX2_row_1 13 rfl rfl)
theorem dX2_row_40 : decode cX2_row 40 = .ok (.aload_n 0, 1) := dk_42 (dk_at dksX2_row_1 16 rfl rfl)
theorem dX2_row_41 : decode cX2_row 41 = .ok (.getfield 20, 3) := dk_180 0 20 (dk_at dksX2_row_1 17 rfl rfl)
theorem dX2_row_44 : decode cX2_row 44 = .ok (.bipush 40, 2) := dk_16 40 (dk_at dksX2_row_1 20 rfl rfl)
theorem dX2_row_46 : decode cX2_row 46 = .ok (.iload_n 1, 1) := dk_27 (dk_at dksX2_row_1 22 rfl rfl)
theorem dX2_row_47 : decode cX2_row 47 = .ok (.imul, 1) := dk_104 (dk_at dksX2_row_1 23 rfl rfl)
theorem dX2_row_48 : decode cX2_row 48 = .ok (.iload_n 3, 1) := dk_29 (dk_at dksX2_row_2 0 rfl rfl)
theorem dX2_row_49 : decode cX2_row 49 = .ok (.iadd, 1) := dk_96 (dk_at dksX2_row_2 1 rfl rfl)
theorem dX2_row_50 : decode cX2_row 50 = .ok (.iconst 0, 1) := dk_3 (dk_at dksX2_row_2 2 rfl rfl)
theorem dX2_row_51 : decode cX2_row 51 = .ok (.iastore, 1) := dk_79 (dk_at dksX2_row_2 3 rfl rfl)
theorem dX2_row_52 : decode cX2_row 52 = .ok (.iinc 3 1, 3) := dk_132 3 1 (dk_at dksX2_row_2 4 rfl rfl)
theorem dX2_row_55 : decode cX2_row 55 = .ok (.goto (-21), 3) := dk_167 255 235 (dk_at dksX2_row_2 7 rfl rfl)
theorem dX2_row_58 : decode cX2_row 58 = .ok (.iload_n 2, 1) := dk_28 (dk_at dksX2_row_2 10 rfl rfl)
theorem dX2_row_59 : decode cX2_row 59 = .ok (.ireturn, 1) := dk_172 (dk_at dksX2_row_2 11 rfl rfl)
abbrev cX2_isRow : ByteArray := prog_11_method_15_code
def yX2_isRow : MethodName := ⟨RX2, "isRow", "(I)Z"⟩
def dkwX2_isRow_0 : List UInt8 := [26, 3, 8, 184, 0, 83, 172]
abbrev dktX2_isRow_0 : List UInt8 := dkwX2_isRow_0 ++ []
theorem dksX2_isRow_0 : cX2_isRow.data.toList.drop 0 = dktX2_isRow_0 := by decide +kernel
theorem dX2_isRow_0 : decode cX2_isRow 0 = .ok (.iload_n 0, 1) := dk_26 (dk_at dksX2_isRow_0 0 rfl rfl)
theorem dX2_isRow_1 : decode cX2_isRow 1 = .ok (.iconst 0, 1) := dk_3 (dk_at dksX2_isRow_0 1 rfl rfl)
theorem dX2_isRow_2 : decode cX2_isRow 2 = .ok (.iconst 5, 1) := dk_8 (dk_at dksX2_isRow_0 2 rfl rfl)
theorem dX2_isRow_3 : decode cX2_isRow 3 = .ok (.invokestatic 83, 3) := dk_184 0 83 (dk_at dksX2_isRow_0 3 rfl rfl)
theorem dX2_isRow_6 : decode cX2_isRow 6 = .ok (.ireturn, 1) := dk_172 (dk_at dksX2_isRow_0 6 rfl rfl)
abbrev cX2_meets : ByteArray := prog_11_method_7_code
def yX2_meets : MethodName := ⟨RX2, "meets", "(I)I"⟩
def dkwX2_meets_0 : List UInt8 := [42, 27, 181, 0, 80, 42, 180, 0, 7, 27, 92, 46, 4, 96, 79, 16, 253, 172]
abbrev dktX2_meets_0 : List UInt8 := dkwX2_meets_0 ++ []
theorem dksX2_meets_0 : cX2_meets.data.toList.drop 0 = dktX2_meets_0 := by decide +kernel
theorem dX2_meets_0 : decode cX2_meets 0 = .ok (.aload_n 0, 1) := dk_42 (dk_at dksX2_meets_0 0 rfl rfl)
theorem dX2_meets_1 : decode cX2_meets 1 = .ok (.iload_n 1, 1) := dk_27 (dk_at dksX2_meets_0 1 rfl rfl)
theorem dX2_meets_2 : decode cX2_meets 2 = .ok (.putfield 80, 3) := dk_181 0 80 (dk_at dksX2_meets_0 2 rfl rfl)
theorem dX2_meets_5 : decode cX2_meets 5 = .ok (.aload_n 0, 1) := dk_42 (dk_at dksX2_meets_0 5 rfl rfl)
theorem dX2_meets_6 : decode cX2_meets 6 = .ok (.getfield 7, 3) := dk_180 0 7 (dk_at dksX2_meets_0 6 rfl rfl)
theorem dX2_meets_9 : decode cX2_meets 9 = .ok (.iload_n 1, 1) := dk_27 (dk_at dksX2_meets_0 9 rfl rfl)
theorem dX2_meets_10 : decode cX2_meets 10 = .ok (.dup2, 1) := dk_92 (dk_at dksX2_meets_0 10 rfl rfl)
theorem dX2_meets_11 : decode cX2_meets 11 = .ok (.iaload, 1) := dk_46 (dk_at dksX2_meets_0 11 rfl rfl)
theorem dX2_meets_12 : decode cX2_meets 12 = .ok (.iconst 1, 1) := dk_4 (dk_at dksX2_meets_0 12 rfl rfl)
theorem dX2_meets_13 : decode cX2_meets 13 = .ok (.iadd, 1) := dk_96 (dk_at dksX2_meets_0 13 rfl rfl)
theorem dX2_meets_14 : decode cX2_meets 14 = .ok (.iastore, 1) := dk_79 (dk_at dksX2_meets_0 14 rfl rfl)
theorem dX2_meets_15 : decode cX2_meets 15 = .ok (.bipush (-3), 2) := dk_16 253 (dk_at dksX2_meets_0 15 rfl rfl)
theorem dX2_meets_17 : decode cX2_meets 17 = .ok (.ireturn, 1) := dk_172 (dk_at dksX2_meets_0 17 rfl rfl)
abbrev cX2_lay : ByteArray := prog_11_method_18_code
def yX2_lay : MethodName := ⟨RX2, "lay", "(III)I"⟩
def dkwX2_lay_3 : List UInt8 := [182, 0, 105, 172]
abbrev dktX2_lay_3 : List UInt8 := dkwX2_lay_3 ++ []
def dkwX2_lay_2 : List UInt8 := [28, 182, 0, 101, 54, 4, 42, 180, 0, 20, 16, 40, 27, 104, 28, 96, 29, 79, 42, 21, 4, 4]
abbrev dktX2_lay_2 : List UInt8 := dkwX2_lay_2 ++ dktX2_lay_3
def dkwX2_lay_1 : List UInt8 := [28, 3, 42, 180, 0, 17, 27, 46, 4, 100, 184, 0, 83, 154, 0, 9, 42, 5, 182, 0, 97, 172, 42, 27]
abbrev dktX2_lay_1 : List UInt8 := dkwX2_lay_1 ++ dktX2_lay_2
def dkwX2_lay_0 : List UInt8 := [27, 184, 0, 93, 154, 0, 5, 2, 172, 42, 180, 0, 17, 27, 46, 156, 0, 9, 42, 4, 182, 0, 97, 172]
abbrev dktX2_lay_0 : List UInt8 := dkwX2_lay_0 ++ dktX2_lay_1
theorem dksX2_lay_0 : cX2_lay.data.toList.drop 0 = dktX2_lay_0 := by decide +kernel
theorem dksX2_lay_1 : cX2_lay.data.toList.drop 24 = dktX2_lay_1 := dk_seg dksX2_lay_0 24 rfl rfl
theorem dksX2_lay_2 : cX2_lay.data.toList.drop 48 = dktX2_lay_2 := dk_seg dksX2_lay_1 24 rfl rfl
theorem dksX2_lay_3 : cX2_lay.data.toList.drop 70 = dktX2_lay_3 := dk_seg dksX2_lay_2 22 rfl rfl
theorem dX2_lay_0 : decode cX2_lay 0 = .ok (.iload_n 1, 1) := dk_27 (dk_at dksX2_lay_0 0 rfl rfl)
theorem dX2_lay_1 : decode cX2_lay 1 = .ok (.invokestatic 93, 3) := dk_184 0 93 (dk_at dksX2_lay_0 1 rfl rfl)
theorem dX2_lay_4 : decode cX2_lay 4 = .ok (.ifCond .ne 5, 3) := dk_154 0 5 (dk_at dksX2_lay_0 4 rfl rfl)
theorem dX2_lay_7 : decode cX2_lay 7 = .ok (.iconst (-1), 1) := dk_2 (dk_at dksX2_lay_0 7 rfl rfl)
theorem dX2_lay_8 : decode cX2_lay 8 = .ok (.ireturn, 1) := dk_172 (dk_at dksX2_lay_0 8 rfl rfl)
theorem dX2_lay_9 : decode cX2_lay 9 = .ok (.aload_n 0, 1) := dk_42 (dk_at dksX2_lay_0 9 rfl rfl)
theorem dX2_lay_10 : decode cX2_lay 10 = .ok (.getfield 17, 3) := dk_180 0 17 (dk_at dksX2_lay_0 10 rfl rfl)
theorem dX2_lay_13 : decode cX2_lay 13 = .ok (.iload_n 1, 1) := dk_27 (dk_at dksX2_lay_0 13 rfl rfl)
theorem dX2_lay_14 : decode cX2_lay 14 = .ok (.iaload, 1) := dk_46 (dk_at dksX2_lay_0 14 rfl rfl)
theorem dX2_lay_15 : decode cX2_lay 15 = .ok (.ifCond .ge 9, 3) := dk_156 0 9 (dk_at dksX2_lay_0 15 rfl rfl)
theorem dX2_lay_18 : decode cX2_lay 18 = .ok (.aload_n 0, 1) := dk_42 (dk_at dksX2_lay_0 18 rfl rfl)
theorem dX2_lay_19 : decode cX2_lay 19 = .ok (.iconst 1, 1) := dk_4 (dk_at dksX2_lay_0 19 rfl rfl)
theorem dX2_lay_20 : decode cX2_lay 20 = .ok (.invokevirtual 97, 3) := dk_182 0 97 (dk_at dksX2_lay_0 20 rfl rfl)
theorem dX2_lay_23 : decode cX2_lay 23 = .ok (.ireturn, 1) := dk_172 (dk_at dksX2_lay_0 23 rfl rfl)
theorem dX2_lay_24 : decode cX2_lay 24 = .ok (.iload_n 2, 1) := dk_28 (dk_at dksX2_lay_1 0 rfl rfl)
theorem dX2_lay_25 : decode cX2_lay 25 = .ok (.iconst 0, 1) := dk_3 (dk_at dksX2_lay_1 1 rfl rfl)
theorem dX2_lay_26 : decode cX2_lay 26 = .ok (.aload_n 0, 1) := dk_42 (dk_at dksX2_lay_1 2 rfl rfl)
theorem dX2_lay_27 : decode cX2_lay 27 = .ok (.getfield 17, 3) := dk_180 0 17 (dk_at dksX2_lay_1 3 rfl rfl)
theorem dX2_lay_30 : decode cX2_lay 30 = .ok (.iload_n 1, 1) := dk_27 (dk_at dksX2_lay_1 6 rfl rfl)
theorem dX2_lay_31 : decode cX2_lay 31 = .ok (.iaload, 1) := dk_46 (dk_at dksX2_lay_1 7 rfl rfl)
theorem dX2_lay_32 : decode cX2_lay 32 = .ok (.iconst 1, 1) := dk_4 (dk_at dksX2_lay_1 8 rfl rfl)
theorem dX2_lay_33 : decode cX2_lay 33 = .ok (.isub, 1) := dk_100 (dk_at dksX2_lay_1 9 rfl rfl)
theorem dX2_lay_34 : decode cX2_lay 34 = .ok (.invokestatic 83, 3) := dk_184 0 83 (dk_at dksX2_lay_1 10 rfl rfl)
theorem dX2_lay_37 : decode cX2_lay 37 = .ok (.ifCond .ne 9, 3) := dk_154 0 9 (dk_at dksX2_lay_1 13 rfl rfl)
theorem dX2_lay_40 : decode cX2_lay 40 = .ok (.aload_n 0, 1) := dk_42 (dk_at dksX2_lay_1 16 rfl rfl)
theorem dX2_lay_41 : decode cX2_lay 41 = .ok (.iconst 2, 1) := dk_5 (dk_at dksX2_lay_1 17 rfl rfl)
theorem dX2_lay_42 : decode cX2_lay 42 = .ok (.invokevirtual 97, 3) := dk_182 0 97 (dk_at dksX2_lay_1 18 rfl rfl)
theorem dX2_lay_45 : decode cX2_lay 45 = .ok (.ireturn, 1) := dk_172 (dk_at dksX2_lay_1 21 rfl rfl)
theorem dX2_lay_46 : decode cX2_lay 46 = .ok (.aload_n 0, 1) := dk_42 (dk_at dksX2_lay_1 22 rfl rfl)
theorem dX2_lay_47 : decode cX2_lay 47 = .ok (.iload_n 1, 1) := dk_27 (dk_at dksX2_lay_1 23 rfl rfl)
theorem dX2_lay_48 : decode cX2_lay 48 = .ok (.iload_n 2, 1) := dk_28 (dk_at dksX2_lay_2 0 rfl rfl)
theorem dX2_lay_49 : decode cX2_lay 49 = .ok (.invokevirtual 101, 3) := dk_182 0 101 (dk_at dksX2_lay_2 1 rfl rfl)
theorem dX2_lay_52 : decode cX2_lay 52 = .ok (.istore 4, 2) := dk_54 4 (dk_at dksX2_lay_2 4 rfl rfl)
theorem dX2_lay_54 : decode cX2_lay 54 = .ok (.aload_n 0, 1) := dk_42 (dk_at dksX2_lay_2 6 rfl rfl)
theorem dX2_lay_55 : decode cX2_lay 55 = .ok (.getfield 20, 3) := dk_180 0 20 (dk_at dksX2_lay_2 7 rfl rfl)
theorem dX2_lay_58 : decode cX2_lay 58 = .ok (.bipush 40, 2) := dk_16 40 (dk_at dksX2_lay_2 10 rfl rfl)
theorem dX2_lay_60 : decode cX2_lay 60 = .ok (.iload_n 1, 1) := dk_27 (dk_at dksX2_lay_2 12 rfl rfl)
theorem dX2_lay_61 : decode cX2_lay 61 = .ok (.imul, 1) := dk_104 (dk_at dksX2_lay_2 13 rfl rfl)
theorem dX2_lay_62 : decode cX2_lay 62 = .ok (.iload_n 2, 1) := dk_28 (dk_at dksX2_lay_2 14 rfl rfl)
theorem dX2_lay_63 : decode cX2_lay 63 = .ok (.iadd, 1) := dk_96 (dk_at dksX2_lay_2 15 rfl rfl)
theorem dX2_lay_64 : decode cX2_lay 64 = .ok (.iload_n 3, 1) := dk_29 (dk_at dksX2_lay_2 16 rfl rfl)
theorem dX2_lay_65 : decode cX2_lay 65 = .ok (.iastore, 1) := dk_79 (dk_at dksX2_lay_2 17 rfl rfl)
theorem dX2_lay_66 : decode cX2_lay 66 = .ok (.aload_n 0, 1) := dk_42 (dk_at dksX2_lay_2 18 rfl rfl)
theorem dX2_lay_67 : decode cX2_lay 67 = .ok (.iload 4, 2) := dk_21 4 (dk_at dksX2_lay_2 19 rfl rfl)
theorem dX2_lay_69 : decode cX2_lay 69 = .ok (.iconst 1, 1) := dk_4 (dk_at dksX2_lay_2 21 rfl rfl)
theorem dX2_lay_70 : decode cX2_lay 70 = .ok (.invokevirtual 105, 3) := dk_182 0 105 (dk_at dksX2_lay_3 0 rfl rfl)
theorem dX2_lay_73 : decode cX2_lay 73 = .ok (.ireturn, 1) := dk_172 (dk_at dksX2_lay_3 3 rfl rfl)
abbrev cX2_rowAt : ByteArray := prog_11_method_16_code
def yX2_rowAt : MethodName := ⟨RX2, "rowAt", "(II)I"⟩
def dkwX2_rowAt_0 : List UInt8 := [42, 180, 0, 20, 16, 40, 27, 104, 28, 96, 46, 172]
abbrev dktX2_rowAt_0 : List UInt8 := dkwX2_rowAt_0 ++ []
theorem dksX2_rowAt_0 : cX2_rowAt.data.toList.drop 0 = dktX2_rowAt_0 := by decide +kernel
theorem dX2_rowAt_0 : decode cX2_rowAt 0 = .ok (.aload_n 0, 1) := dk_42 (dk_at dksX2_rowAt_0 0 rfl rfl)
theorem dX2_rowAt_1 : decode cX2_rowAt 1 = .ok (.getfield 20, 3) := dk_180 0 20 (dk_at dksX2_rowAt_0 1 rfl rfl)
theorem dX2_rowAt_4 : decode cX2_rowAt 4 = .ok (.bipush 40, 2) := dk_16 40 (dk_at dksX2_rowAt_0 4 rfl rfl)
theorem dX2_rowAt_6 : decode cX2_rowAt 6 = .ok (.iload_n 1, 1) := dk_27 (dk_at dksX2_rowAt_0 6 rfl rfl)
theorem dX2_rowAt_7 : decode cX2_rowAt 7 = .ok (.imul, 1) := dk_104 (dk_at dksX2_rowAt_0 7 rfl rfl)
theorem dX2_rowAt_8 : decode cX2_rowAt 8 = .ok (.iload_n 2, 1) := dk_28 (dk_at dksX2_rowAt_0 8 rfl rfl)
theorem dX2_rowAt_9 : decode cX2_rowAt 9 = .ok (.iadd, 1) := dk_96 (dk_at dksX2_rowAt_0 9 rfl rfl)
theorem dX2_rowAt_10 : decode cX2_rowAt 10 = .ok (.iaload, 1) := dk_46 (dk_at dksX2_rowAt_0 10 rfl rfl)
theorem dX2_rowAt_11 : decode cX2_rowAt 11 = .ok (.ireturn, 1) := dk_172 (dk_at dksX2_rowAt_0 11 rfl rfl)
abbrev cX2_tells : ByteArray := prog_11_method_10_code
def yX2_tells : MethodName := ⟨RX2, "tells", "(II)I"⟩
def dkwX2_tells_0 : List UInt8 := [42, 27, 181, 0, 87, 28, 172]
abbrev dktX2_tells_0 : List UInt8 := dkwX2_tells_0 ++ []
theorem dksX2_tells_0 : cX2_tells.data.toList.drop 0 = dktX2_tells_0 := by decide +kernel
theorem dX2_tells_0 : decode cX2_tells 0 = .ok (.aload_n 0, 1) := dk_42 (dk_at dksX2_tells_0 0 rfl rfl)
theorem dX2_tells_1 : decode cX2_tells 1 = .ok (.iload_n 1, 1) := dk_27 (dk_at dksX2_tells_0 1 rfl rfl)
theorem dX2_tells_2 : decode cX2_tells 2 = .ok (.putfield 87, 3) := dk_181 0 87 (dk_at dksX2_tells_0 2 rfl rfl)
theorem dX2_tells_5 : decode cX2_tells 5 = .ok (.iload_n 2, 1) := dk_28 (dk_at dksX2_tells_0 5 rfl rfl)
theorem dX2_tells_6 : decode cX2_tells 6 = .ok (.ireturn, 1) := dk_172 (dk_at dksX2_tells_0 6 rfl rfl)
abbrev cX2_at : ByteArray := prog_11_method_19_code
def yX2_at : MethodName := ⟨RX2, "at", "(II)I"⟩
def dkwX2_at_2 : List UInt8 := [182, 0, 105, 167, 0, 8, 42, 5, 182, 0, 97, 172]
abbrev dktX2_at_2 : List UInt8 := dkwX2_at_2 ++ []
def dkwX2_at_1 : List UInt8 := [28, 3, 42, 180, 0, 17, 27, 46, 4, 100, 184, 0, 83, 153, 0, 17, 42, 42, 27, 28, 182, 0, 101, 4]
abbrev dktX2_at_1 : List UInt8 := dkwX2_at_1 ++ dktX2_at_2
def dkwX2_at_0 : List UInt8 := [27, 184, 0, 93, 154, 0, 5, 2, 172, 42, 180, 0, 17, 27, 46, 156, 0, 9, 42, 4, 182, 0, 97, 172]
abbrev dktX2_at_0 : List UInt8 := dkwX2_at_0 ++ dktX2_at_1
theorem dksX2_at_0 : cX2_at.data.toList.drop 0 = dktX2_at_0 := by decide +kernel
theorem dksX2_at_1 : cX2_at.data.toList.drop 24 = dktX2_at_1 := dk_seg dksX2_at_0 24 rfl rfl
theorem dksX2_at_2 : cX2_at.data.toList.drop 48 = dktX2_at_2 := dk_seg dksX2_at_1 24 rfl rfl
theorem dX2_at_0 : decode cX2_at 0 = .ok (.iload_n 1, 1) := dk_27 (dk_at dksX2_at_0 0 rfl rfl)
theorem dX2_at_1 : decode cX2_at 1 = .ok (.invokestatic 93, 3) := dk_184 0 93 (dk_at dksX2_at_0 1 rfl rfl)
theorem dX2_at_4 : decode cX2_at 4 = .ok (.ifCond .ne 5, 3) := dk_154 0 5 (dk_at dksX2_at_0 4 rfl rfl)
theorem dX2_at_7 : decode cX2_at 7 = .ok (.iconst (-1), 1) := dk_2 (dk_at dksX2_at_0 7 rfl rfl)
theorem dX2_at_8 : decode cX2_at 8 = .ok (.ireturn, 1) := dk_172 (dk_at dksX2_at_0 8 rfl rfl)
theorem dX2_at_9 : decode cX2_at 9 = .ok (.aload_n 0, 1) := dk_42 (dk_at dksX2_at_0 9 rfl rfl)
theorem dX2_at_10 : decode cX2_at 10 = .ok (.getfield 17, 3) := dk_180 0 17 (dk_at dksX2_at_0 10 rfl rfl)
theorem dX2_at_13 : decode cX2_at 13 = .ok (.iload_n 1, 1) := dk_27 (dk_at dksX2_at_0 13 rfl rfl)
theorem dX2_at_14 : decode cX2_at 14 = .ok (.iaload, 1) := dk_46 (dk_at dksX2_at_0 14 rfl rfl)
theorem dX2_at_15 : decode cX2_at 15 = .ok (.ifCond .ge 9, 3) := dk_156 0 9 (dk_at dksX2_at_0 15 rfl rfl)
theorem dX2_at_18 : decode cX2_at 18 = .ok (.aload_n 0, 1) := dk_42 (dk_at dksX2_at_0 18 rfl rfl)
theorem dX2_at_19 : decode cX2_at 19 = .ok (.iconst 1, 1) := dk_4 (dk_at dksX2_at_0 19 rfl rfl)
theorem dX2_at_20 : decode cX2_at 20 = .ok (.invokevirtual 97, 3) := dk_182 0 97 (dk_at dksX2_at_0 20 rfl rfl)
theorem dX2_at_23 : decode cX2_at 23 = .ok (.ireturn, 1) := dk_172 (dk_at dksX2_at_0 23 rfl rfl)
theorem dX2_at_24 : decode cX2_at 24 = .ok (.iload_n 2, 1) := dk_28 (dk_at dksX2_at_1 0 rfl rfl)
theorem dX2_at_25 : decode cX2_at 25 = .ok (.iconst 0, 1) := dk_3 (dk_at dksX2_at_1 1 rfl rfl)
theorem dX2_at_26 : decode cX2_at 26 = .ok (.aload_n 0, 1) := dk_42 (dk_at dksX2_at_1 2 rfl rfl)
theorem dX2_at_27 : decode cX2_at 27 = .ok (.getfield 17, 3) := dk_180 0 17 (dk_at dksX2_at_1 3 rfl rfl)
theorem dX2_at_30 : decode cX2_at 30 = .ok (.iload_n 1, 1) := dk_27 (dk_at dksX2_at_1 6 rfl rfl)
theorem dX2_at_31 : decode cX2_at 31 = .ok (.iaload, 1) := dk_46 (dk_at dksX2_at_1 7 rfl rfl)
theorem dX2_at_32 : decode cX2_at 32 = .ok (.iconst 1, 1) := dk_4 (dk_at dksX2_at_1 8 rfl rfl)
theorem dX2_at_33 : decode cX2_at 33 = .ok (.isub, 1) := dk_100 (dk_at dksX2_at_1 9 rfl rfl)
theorem dX2_at_34 : decode cX2_at 34 = .ok (.invokestatic 83, 3) := dk_184 0 83 (dk_at dksX2_at_1 10 rfl rfl)
theorem dX2_at_37 : decode cX2_at 37 = .ok (.ifCond .eq 17, 3) := dk_153 0 17 (dk_at dksX2_at_1 13 rfl rfl)
theorem dX2_at_40 : decode cX2_at 40 = .ok (.aload_n 0, 1) := dk_42 (dk_at dksX2_at_1 16 rfl rfl)
theorem dX2_at_41 : decode cX2_at 41 = .ok (.aload_n 0, 1) := dk_42 (dk_at dksX2_at_1 17 rfl rfl)
theorem dX2_at_42 : decode cX2_at 42 = .ok (.iload_n 1, 1) := dk_27 (dk_at dksX2_at_1 18 rfl rfl)
theorem dX2_at_43 : decode cX2_at 43 = .ok (.iload_n 2, 1) := dk_28 (dk_at dksX2_at_1 19 rfl rfl)
theorem dX2_at_44 : decode cX2_at 44 = .ok (.invokevirtual 101, 3) := dk_182 0 101 (dk_at dksX2_at_1 20 rfl rfl)
theorem dX2_at_47 : decode cX2_at 47 = .ok (.iconst 1, 1) := dk_4 (dk_at dksX2_at_1 23 rfl rfl)
theorem dX2_at_48 : decode cX2_at 48 = .ok (.invokevirtual 105, 3) := dk_182 0 105 (dk_at dksX2_at_2 0 rfl rfl)
theorem dX2_at_51 : decode cX2_at 51 = .ok (.goto 8, 3) := dk_167 0 8 (dk_at dksX2_at_2 3 rfl rfl)
theorem dX2_at_54 : decode cX2_at 54 = .ok (.aload_n 0, 1) := dk_42 (dk_at dksX2_at_2 6 rfl rfl)
theorem dX2_at_55 : decode cX2_at 55 = .ok (.iconst 2, 1) := dk_5 (dk_at dksX2_at_2 7 rfl rfl)
theorem dX2_at_56 : decode cX2_at 56 = .ok (.invokevirtual 97, 3) := dk_182 0 97 (dk_at dksX2_at_2 8 rfl rfl)
theorem dX2_at_59 : decode cX2_at 59 = .ok (.ireturn, 1) := dk_172 (dk_at dksX2_at_2 11 rfl rfl)
abbrev cX2_tear : ByteArray := prog_11_method_20_code
def yX2_tear : MethodName := ⟨RX2, "tear", "(I)I"⟩
def dkwX2_tear_1 : List UInt8 := [42, 180, 0, 17, 27, 2, 79, 4, 172]
abbrev dktX2_tear_1 : List UInt8 := dkwX2_tear_1 ++ []
def dkwX2_tear_0 : List UInt8 := [27, 184, 0, 93, 154, 0, 5, 2, 172, 42, 180, 0, 17, 27, 46, 156, 0, 9, 42, 4, 182, 0, 97, 172]
abbrev dktX2_tear_0 : List UInt8 := dkwX2_tear_0 ++ dktX2_tear_1
theorem dksX2_tear_0 : cX2_tear.data.toList.drop 0 = dktX2_tear_0 := by decide +kernel
theorem dksX2_tear_1 : cX2_tear.data.toList.drop 24 = dktX2_tear_1 := dk_seg dksX2_tear_0 24 rfl rfl
theorem dX2_tear_0 : decode cX2_tear 0 = .ok (.iload_n 1, 1) := dk_27 (dk_at dksX2_tear_0 0 rfl rfl)
theorem dX2_tear_1 : decode cX2_tear 1 = .ok (.invokestatic 93, 3) := dk_184 0 93 (dk_at dksX2_tear_0 1 rfl rfl)
theorem dX2_tear_4 : decode cX2_tear 4 = .ok (.ifCond .ne 5, 3) := dk_154 0 5 (dk_at dksX2_tear_0 4 rfl rfl)
theorem dX2_tear_7 : decode cX2_tear 7 = .ok (.iconst (-1), 1) := dk_2 (dk_at dksX2_tear_0 7 rfl rfl)
theorem dX2_tear_8 : decode cX2_tear 8 = .ok (.ireturn, 1) := dk_172 (dk_at dksX2_tear_0 8 rfl rfl)
theorem dX2_tear_9 : decode cX2_tear 9 = .ok (.aload_n 0, 1) := dk_42 (dk_at dksX2_tear_0 9 rfl rfl)
theorem dX2_tear_10 : decode cX2_tear 10 = .ok (.getfield 17, 3) := dk_180 0 17 (dk_at dksX2_tear_0 10 rfl rfl)
theorem dX2_tear_13 : decode cX2_tear 13 = .ok (.iload_n 1, 1) := dk_27 (dk_at dksX2_tear_0 13 rfl rfl)
theorem dX2_tear_14 : decode cX2_tear 14 = .ok (.iaload, 1) := dk_46 (dk_at dksX2_tear_0 14 rfl rfl)
theorem dX2_tear_15 : decode cX2_tear 15 = .ok (.ifCond .ge 9, 3) := dk_156 0 9 (dk_at dksX2_tear_0 15 rfl rfl)
theorem dX2_tear_18 : decode cX2_tear 18 = .ok (.aload_n 0, 1) := dk_42 (dk_at dksX2_tear_0 18 rfl rfl)
theorem dX2_tear_19 : decode cX2_tear 19 = .ok (.iconst 1, 1) := dk_4 (dk_at dksX2_tear_0 19 rfl rfl)
theorem dX2_tear_20 : decode cX2_tear 20 = .ok (.invokevirtual 97, 3) := dk_182 0 97 (dk_at dksX2_tear_0 20 rfl rfl)
theorem dX2_tear_23 : decode cX2_tear 23 = .ok (.ireturn, 1) := dk_172 (dk_at dksX2_tear_0 23 rfl rfl)
theorem dX2_tear_24 : decode cX2_tear 24 = .ok (.aload_n 0, 1) := dk_42 (dk_at dksX2_tear_1 0 rfl rfl)
theorem dX2_tear_25 : decode cX2_tear 25 = .ok (.getfield 17, 3) := dk_180 0 17 (dk_at dksX2_tear_1 1 rfl rfl)
theorem dX2_tear_28 : decode cX2_tear 28 = .ok (.iload_n 1, 1) := dk_27 (dk_at dksX2_tear_1 4 rfl rfl)
theorem dX2_tear_29 : decode cX2_tear 29 = .ok (.iconst (-1), 1) := dk_2 (dk_at dksX2_tear_1 5 rfl rfl)
theorem dX2_tear_30 : decode cX2_tear 30 = .ok (.iastore, 1) := dk_79 (dk_at dksX2_tear_1 6 rfl rfl)
theorem dX2_tear_31 : decode cX2_tear 31 = .ok (.iconst 1, 1) := dk_4 (dk_at dksX2_tear_1 7 rfl rfl)
theorem dX2_tear_32 : decode cX2_tear 32 = .ok (.ireturn, 1) := dk_172 (dk_at dksX2_tear_1 8 rfl rfl)
abbrev cX2_copy : ByteArray := prog_11_method_21_code
def yX2_copy : MethodName := ⟨RX2, "copy", "(IIIII)I"⟩
def dkwX2_copy_7 : List UInt8 := [132, 6, 1, 167, 255, 224, 4, 172]
abbrev dktX2_copy_7 : List UInt8 := dkwX2_copy_7 ++ []
def dkwX2_copy_6 : List UInt8 := [42, 180, 0, 20, 16, 40, 29, 104, 21, 4, 96, 21, 6, 96, 42, 180, 0, 23, 21, 6, 46, 79]
abbrev dktX2_copy_6 : List UInt8 := dkwX2_copy_6 ++ dktX2_copy_7
def dkwX2_copy_5 : List UInt8 := [28, 21, 6, 96, 182, 0, 101, 79, 132, 6, 1, 167, 255, 230, 3, 54, 6, 21, 6, 21, 5, 162, 0, 31]
abbrev dktX2_copy_5 : List UInt8 := dkwX2_copy_5 ++ dktX2_copy_6
def dkwX2_copy_4 : List UInt8 := [42, 5, 182, 0, 97, 172, 3, 54, 6, 21, 6, 21, 5, 162, 0, 25, 42, 180, 0, 23, 21, 6, 42, 27]
abbrev dktX2_copy_4 : List UInt8 := dkwX2_copy_4 ++ dktX2_copy_5
def dkwX2_copy_3 : List UInt8 := [46, 133, 148, 157, 0, 21, 21, 4, 133, 21, 5, 133, 97, 42, 180, 0, 17, 29, 46, 133, 148, 158, 0, 9]
abbrev dktX2_copy_3 : List UInt8 := dkwX2_copy_3 ++ dktX2_copy_4
def dkwX2_copy_2 : List UInt8 := [182, 0, 97, 172, 28, 155, 0, 43, 21, 4, 155, 0, 38, 28, 133, 21, 5, 133, 97, 42, 180, 0, 17, 27]
abbrev dktX2_copy_2 : List UInt8 := dkwX2_copy_2 ++ dktX2_copy_3
def dkwX2_copy_1 : List UInt8 := [182, 0, 97, 172, 42, 180, 0, 17, 27, 46, 155, 0, 12, 42, 180, 0, 17, 29, 46, 156, 0, 9, 42, 4]
abbrev dktX2_copy_1 : List UInt8 := dkwX2_copy_1 ++ dktX2_copy_2
def dkwX2_copy_0 : List UInt8 := [27, 184, 0, 93, 153, 0, 10, 29, 184, 0, 93, 154, 0, 5, 2, 172, 21, 5, 156, 0, 9, 42, 8]
abbrev dktX2_copy_0 : List UInt8 := dkwX2_copy_0 ++ dktX2_copy_1
theorem dksX2_copy_0 : cX2_copy.data.toList.drop 0 = dktX2_copy_0 := by decide +kernel
theorem dksX2_copy_1 : cX2_copy.data.toList.drop 23 = dktX2_copy_1 := dk_seg dksX2_copy_0 23 rfl rfl
theorem dksX2_copy_2 : cX2_copy.data.toList.drop 47 = dktX2_copy_2 := dk_seg dksX2_copy_1 24 rfl rfl
theorem dksX2_copy_3 : cX2_copy.data.toList.drop 71 = dktX2_copy_3 := dk_seg dksX2_copy_2 24 rfl rfl
theorem dksX2_copy_4 : cX2_copy.data.toList.drop 95 = dktX2_copy_4 := dk_seg dksX2_copy_3 24 rfl rfl
theorem dksX2_copy_5 : cX2_copy.data.toList.drop 119 = dktX2_copy_5 := dk_seg dksX2_copy_4 24 rfl rfl
theorem dksX2_copy_6 : cX2_copy.data.toList.drop 143 = dktX2_copy_6 := dk_seg dksX2_copy_5 24 rfl rfl
theorem dksX2_copy_7 : cX2_copy.data.toList.drop 165 = dktX2_copy_7 := dk_seg dksX2_copy_6 22 rfl rfl
theorem dX2_copy_0 : decode cX2_copy 0 = .ok (.iload_n 1, 1) := dk_27 (dk_at dksX2_copy_0 0 rfl rfl)
theorem dX2_copy_1 : decode cX2_copy 1 = .ok (.invokestatic 93, 3) := dk_184 0 93 (dk_at dksX2_copy_0 1 rfl rfl)
theorem dX2_copy_4 : decode cX2_copy 4 = .ok (.ifCond .eq 10, 3) := dk_153 0 10 (dk_at dksX2_copy_0 4 rfl rfl)
theorem dX2_copy_7 : decode cX2_copy 7 = .ok (.iload_n 3, 1) := dk_29 (dk_at dksX2_copy_0 7 rfl rfl)
theorem dX2_copy_8 : decode cX2_copy 8 = .ok (.invokestatic 93, 3) := dk_184 0 93 (dk_at dksX2_copy_0 8 rfl rfl)
theorem dX2_copy_11 : decode cX2_copy 11 = .ok (.ifCond .ne 5, 3) := dk_154 0 5 (dk_at dksX2_copy_0 11 rfl rfl)
theorem dX2_copy_14 : decode cX2_copy 14 = .ok (.iconst (-1), 1) := dk_2 (dk_at dksX2_copy_0 14 rfl rfl)
theorem dX2_copy_15 : decode cX2_copy 15 = .ok (.ireturn, 1) := dk_172 (dk_at dksX2_copy_0 15 rfl rfl)
theorem dX2_copy_16 : decode cX2_copy 16 = .ok (.iload 5, 2) := dk_21 5 (dk_at dksX2_copy_0 16 rfl rfl)
theorem dX2_copy_18 : decode cX2_copy 18 = .ok (.ifCond .ge 9, 3) := dk_156 0 9 (dk_at dksX2_copy_0 18 rfl rfl)
theorem dX2_copy_21 : decode cX2_copy 21 = .ok (.aload_n 0, 1) := dk_42 (dk_at dksX2_copy_0 21 rfl rfl)
theorem dX2_copy_22 : decode cX2_copy 22 = .ok (.iconst 5, 1) := dk_8 (dk_at dksX2_copy_0 22 rfl rfl)
theorem dX2_copy_23 : decode cX2_copy 23 = .ok (.invokevirtual 97, 3) := dk_182 0 97 (dk_at dksX2_copy_1 0 rfl rfl)
theorem dX2_copy_26 : decode cX2_copy 26 = .ok (.ireturn, 1) := dk_172 (dk_at dksX2_copy_1 3 rfl rfl)
theorem dX2_copy_27 : decode cX2_copy 27 = .ok (.aload_n 0, 1) := dk_42 (dk_at dksX2_copy_1 4 rfl rfl)
theorem dX2_copy_28 : decode cX2_copy 28 = .ok (.getfield 17, 3) := dk_180 0 17 (dk_at dksX2_copy_1 5 rfl rfl)
theorem dX2_copy_31 : decode cX2_copy 31 = .ok (.iload_n 1, 1) := dk_27 (dk_at dksX2_copy_1 8 rfl rfl)
theorem dX2_copy_32 : decode cX2_copy 32 = .ok (.iaload, 1) := dk_46 (dk_at dksX2_copy_1 9 rfl rfl)
theorem dX2_copy_33 : decode cX2_copy 33 = .ok (.ifCond .lt 12, 3) := dk_155 0 12 (dk_at dksX2_copy_1 10 rfl rfl)
theorem dX2_copy_36 : decode cX2_copy 36 = .ok (.aload_n 0, 1) := dk_42 (dk_at dksX2_copy_1 13 rfl rfl)
theorem dX2_copy_37 : decode cX2_copy 37 = .ok (.getfield 17, 3) := dk_180 0 17 (dk_at dksX2_copy_1 14 rfl rfl)
theorem dX2_copy_40 : decode cX2_copy 40 = .ok (.iload_n 3, 1) := dk_29 (dk_at dksX2_copy_1 17 rfl rfl)
theorem dX2_copy_41 : decode cX2_copy 41 = .ok (.iaload, 1) := dk_46 (dk_at dksX2_copy_1 18 rfl rfl)
theorem dX2_copy_42 : decode cX2_copy 42 = .ok (.ifCond .ge 9, 3) := dk_156 0 9 (dk_at dksX2_copy_1 19 rfl rfl)
theorem dX2_copy_45 : decode cX2_copy 45 = .ok (.aload_n 0, 1) := dk_42 (dk_at dksX2_copy_1 22 rfl rfl)
theorem dX2_copy_46 : decode cX2_copy 46 = .ok (.iconst 1, 1) := dk_4 (dk_at dksX2_copy_1 23 rfl rfl)
theorem dX2_copy_47 : decode cX2_copy 47 = .ok (.invokevirtual 97, 3) := dk_182 0 97 (dk_at dksX2_copy_2 0 rfl rfl)
theorem dX2_copy_50 : decode cX2_copy 50 = .ok (.ireturn, 1) := dk_172 (dk_at dksX2_copy_2 3 rfl rfl)
theorem dX2_copy_51 : decode cX2_copy 51 = .ok (.iload_n 2, 1) := dk_28 (dk_at dksX2_copy_2 4 rfl rfl)
theorem dX2_copy_52 : decode cX2_copy 52 = .ok (.ifCond .lt 43, 3) := dk_155 0 43 (dk_at dksX2_copy_2 5 rfl rfl)
theorem dX2_copy_55 : decode cX2_copy 55 = .ok (.iload 4, 2) := dk_21 4 (dk_at dksX2_copy_2 8 rfl rfl)
theorem dX2_copy_57 : decode cX2_copy 57 = .ok (.ifCond .lt 38, 3) := dk_155 0 38 (dk_at dksX2_copy_2 10 rfl rfl)
theorem dX2_copy_60 : decode cX2_copy 60 = .ok (.iload_n 2, 1) := dk_28 (dk_at dksX2_copy_2 13 rfl rfl)
theorem dX2_copy_61 : decode cX2_copy 61 = .ok (.i2l, 1) := dk_133 (dk_at dksX2_copy_2 14 rfl rfl)
theorem dX2_copy_62 : decode cX2_copy 62 = .ok (.iload 5, 2) := dk_21 5 (dk_at dksX2_copy_2 15 rfl rfl)
theorem dX2_copy_64 : decode cX2_copy 64 = .ok (.i2l, 1) := dk_133 (dk_at dksX2_copy_2 17 rfl rfl)
theorem dX2_copy_65 : decode cX2_copy 65 = .ok (.ladd, 1) := dk_97 (dk_at dksX2_copy_2 18 rfl rfl)
theorem dX2_copy_66 : decode cX2_copy 66 = .ok (.aload_n 0, 1) := dk_42 (dk_at dksX2_copy_2 19 rfl rfl)
theorem dX2_copy_67 : decode cX2_copy 67 = .ok (.getfield 17, 3) := dk_180 0 17 (dk_at dksX2_copy_2 20 rfl rfl)
theorem dX2_copy_70 : decode cX2_copy 70 = .ok (.iload_n 1, 1) := dk_27 (dk_at dksX2_copy_2 23 rfl rfl)
theorem dX2_copy_71 : decode cX2_copy 71 = .ok (.iaload, 1) := dk_46 (dk_at dksX2_copy_3 0 rfl rfl)
theorem dX2_copy_72 : decode cX2_copy 72 = .ok (.i2l, 1) := dk_133 (dk_at dksX2_copy_3 1 rfl rfl)
theorem dX2_copy_73 : decode cX2_copy 73 = .ok (.lcmp, 1) := dk_148 (dk_at dksX2_copy_3 2 rfl rfl)
theorem dX2_copy_74 : decode cX2_copy 74 = .ok (.ifCond .gt 21, 3) := dk_157 0 21 (dk_at dksX2_copy_3 3 rfl rfl)
theorem dX2_copy_77 : decode cX2_copy 77 = .ok (.iload 4, 2) := dk_21 4 (dk_at dksX2_copy_3 6 rfl rfl)
theorem dX2_copy_79 : decode cX2_copy 79 = .ok (.i2l, 1) := dk_133 (dk_at dksX2_copy_3 8 rfl rfl)
theorem dX2_copy_80 : decode cX2_copy 80 = .ok (.iload 5, 2) := dk_21 5 (dk_at dksX2_copy_3 9 rfl rfl)
theorem dX2_copy_82 : decode cX2_copy 82 = .ok (.i2l, 1) := dk_133 (dk_at dksX2_copy_3 11 rfl rfl)
theorem dX2_copy_83 : decode cX2_copy 83 = .ok (.ladd, 1) := dk_97 (dk_at dksX2_copy_3 12 rfl rfl)
theorem dX2_copy_84 : decode cX2_copy 84 = .ok (.aload_n 0, 1) := dk_42 (dk_at dksX2_copy_3 13 rfl rfl)
theorem dX2_copy_85 : decode cX2_copy 85 = .ok (.getfield 17, 3) := dk_180 0 17 (dk_at dksX2_copy_3 14 rfl rfl)
theorem dX2_copy_88 : decode cX2_copy 88 = .ok (.iload_n 3, 1) := dk_29 (dk_at dksX2_copy_3 17 rfl rfl)
theorem dX2_copy_89 : decode cX2_copy 89 = .ok (.iaload, 1) := dk_46 (dk_at dksX2_copy_3 18 rfl rfl)
theorem dX2_copy_90 : decode cX2_copy 90 = .ok (.i2l, 1) := dk_133 (dk_at dksX2_copy_3 19 rfl rfl)
theorem dX2_copy_91 : decode cX2_copy 91 = .ok (.lcmp, 1) := dk_148 (dk_at dksX2_copy_3 20 rfl rfl)
theorem dX2_copy_92 : decode cX2_copy 92 = .ok (.ifCond .le 9, 3) := dk_158 0 9 (dk_at dksX2_copy_3 21 rfl rfl)
theorem dX2_copy_95 : decode cX2_copy 95 = .ok (.aload_n 0, 1) := dk_42 (dk_at dksX2_copy_4 0 rfl rfl)
theorem dX2_copy_96 : decode cX2_copy 96 = .ok (.iconst 2, 1) := dk_5 (dk_at dksX2_copy_4 1 rfl rfl)
theorem dX2_copy_97 : decode cX2_copy 97 = .ok (.invokevirtual 97, 3) := dk_182 0 97 (dk_at dksX2_copy_4 2 rfl rfl)
theorem dX2_copy_100 : decode cX2_copy 100 = .ok (.ireturn, 1) := dk_172 (dk_at dksX2_copy_4 5 rfl rfl)
theorem dX2_copy_101 : decode cX2_copy 101 = .ok (.iconst 0, 1) := dk_3 (dk_at dksX2_copy_4 6 rfl rfl)
theorem dX2_copy_102 : decode cX2_copy 102 = .ok (.istore 6, 2) := dk_54 6 (dk_at dksX2_copy_4 7 rfl rfl)
theorem dX2_copy_104 : decode cX2_copy 104 = .ok (.iload 6, 2) := dk_21 6 (dk_at dksX2_copy_4 9 rfl rfl)
theorem dX2_copy_106 : decode cX2_copy 106 = .ok (.iload 5, 2) := dk_21 5 (dk_at dksX2_copy_4 11 rfl rfl)
theorem dX2_copy_108 : decode cX2_copy 108 = .ok (.if_icmp .ge 25, 3) := dk_162 0 25 (dk_at dksX2_copy_4 13 rfl rfl)
theorem dX2_copy_111 : decode cX2_copy 111 = .ok (.aload_n 0, 1) := dk_42 (dk_at dksX2_copy_4 16 rfl rfl)
theorem dX2_copy_112 : decode cX2_copy 112 = .ok (.getfield 23, 3) := dk_180 0 23 (dk_at dksX2_copy_4 17 rfl rfl)
theorem dX2_copy_115 : decode cX2_copy 115 = .ok (.iload 6, 2) := dk_21 6 (dk_at dksX2_copy_4 20 rfl rfl)
theorem dX2_copy_117 : decode cX2_copy 117 = .ok (.aload_n 0, 1) := dk_42 (dk_at dksX2_copy_4 22 rfl rfl)
theorem dX2_copy_118 : decode cX2_copy 118 = .ok (.iload_n 1, 1) := dk_27 (dk_at dksX2_copy_4 23 rfl rfl)
theorem dX2_copy_119 : decode cX2_copy 119 = .ok (.iload_n 2, 1) := dk_28 (dk_at dksX2_copy_5 0 rfl rfl)
theorem dX2_copy_120 : decode cX2_copy 120 = .ok (.iload 6, 2) := dk_21 6 (dk_at dksX2_copy_5 1 rfl rfl)
theorem dX2_copy_122 : decode cX2_copy 122 = .ok (.iadd, 1) := dk_96 (dk_at dksX2_copy_5 3 rfl rfl)
theorem dX2_copy_123 : decode cX2_copy 123 = .ok (.invokevirtual 101, 3) := dk_182 0 101 (dk_at dksX2_copy_5 4 rfl rfl)
theorem dX2_copy_126 : decode cX2_copy 126 = .ok (.iastore, 1) := dk_79 (dk_at dksX2_copy_5 7 rfl rfl)
theorem dX2_copy_127 : decode cX2_copy 127 = .ok (.iinc 6 1, 3) := dk_132 6 1 (dk_at dksX2_copy_5 8 rfl rfl)
theorem dX2_copy_130 : decode cX2_copy 130 = .ok (.goto (-26), 3) := dk_167 255 230 (dk_at dksX2_copy_5 11 rfl rfl)
theorem dX2_copy_133 : decode cX2_copy 133 = .ok (.iconst 0, 1) := dk_3 (dk_at dksX2_copy_5 14 rfl rfl)
theorem dX2_copy_134 : decode cX2_copy 134 = .ok (.istore 6, 2) := dk_54 6 (dk_at dksX2_copy_5 15 rfl rfl)
theorem dX2_copy_136 : decode cX2_copy 136 = .ok (.iload 6, 2) := dk_21 6 (dk_at dksX2_copy_5 17 rfl rfl)
theorem dX2_copy_138 : decode cX2_copy 138 = .ok (.iload 5, 2) := dk_21 5 (dk_at dksX2_copy_5 19 rfl rfl)
theorem dX2_copy_140 : decode cX2_copy 140 = .ok (.if_icmp .ge 31, 3) := dk_162 0 31 (dk_at dksX2_copy_5 21 rfl rfl)
theorem dX2_copy_143 : decode cX2_copy 143 = .ok (.aload_n 0, 1) := dk_42 (dk_at dksX2_copy_6 0 rfl rfl)
theorem dX2_copy_144 : decode cX2_copy 144 = .ok (.getfield 20, 3) := dk_180 0 20 (dk_at dksX2_copy_6 1 rfl rfl)
theorem dX2_copy_147 : decode cX2_copy 147 = .ok (.bipush 40, 2) := dk_16 40 (dk_at dksX2_copy_6 4 rfl rfl)
theorem dX2_copy_149 : decode cX2_copy 149 = .ok (.iload_n 3, 1) := dk_29 (dk_at dksX2_copy_6 6 rfl rfl)
theorem dX2_copy_150 : decode cX2_copy 150 = .ok (.imul, 1) := dk_104 (dk_at dksX2_copy_6 7 rfl rfl)
theorem dX2_copy_151 : decode cX2_copy 151 = .ok (.iload 4, 2) := dk_21 4 (dk_at dksX2_copy_6 8 rfl rfl)
theorem dX2_copy_153 : decode cX2_copy 153 = .ok (.iadd, 1) := dk_96 (dk_at dksX2_copy_6 10 rfl rfl)
theorem dX2_copy_154 : decode cX2_copy 154 = .ok (.iload 6, 2) := dk_21 6 (dk_at dksX2_copy_6 11 rfl rfl)
theorem dX2_copy_156 : decode cX2_copy 156 = .ok (.iadd, 1) := dk_96 (dk_at dksX2_copy_6 13 rfl rfl)
theorem dX2_copy_157 : decode cX2_copy 157 = .ok (.aload_n 0, 1) := dk_42 (dk_at dksX2_copy_6 14 rfl rfl)
theorem dX2_copy_158 : decode cX2_copy 158 = .ok (.getfield 23, 3) := dk_180 0 23 (dk_at dksX2_copy_6 15 rfl rfl)
theorem dX2_copy_161 : decode cX2_copy 161 = .ok (.iload 6, 2) := dk_21 6 (dk_at dksX2_copy_6 18 rfl rfl)
theorem dX2_copy_163 : decode cX2_copy 163 = .ok (.iaload, 1) := dk_46 (dk_at dksX2_copy_6 20 rfl rfl)
theorem dX2_copy_164 : decode cX2_copy 164 = .ok (.iastore, 1) := dk_79 (dk_at dksX2_copy_6 21 rfl rfl)
theorem dX2_copy_165 : decode cX2_copy 165 = .ok (.iinc 6 1, 3) := dk_132 6 1 (dk_at dksX2_copy_7 0 rfl rfl)
theorem dX2_copy_168 : decode cX2_copy 168 = .ok (.goto (-32), 3) := dk_167 255 224 (dk_at dksX2_copy_7 3 rfl rfl)
theorem dX2_copy_171 : decode cX2_copy 171 = .ok (.iconst 1, 1) := dk_4 (dk_at dksX2_copy_7 6 rfl rfl)
theorem dX2_copy_172 : decode cX2_copy 172 = .ok (.ireturn, 1) := dk_172 (dk_at dksX2_copy_7 7 rfl rfl)
abbrev cX2_mean : ByteArray := prog_11_method_22_code
def yX2_mean : MethodName := ⟨RX2, "mean", "(I)I"⟩
def dkwX2_mean_3 : List UInt8 := [167, 255, 231, 42, 32, 42, 180, 0, 17, 27, 46, 133, 109, 136, 4, 182, 0, 105, 172]
abbrev dktX2_mean_3 : List UInt8 := dkwX2_mean_3 ++ []
def dkwX2_mean_2 : List UInt8 := [180, 0, 17, 27, 46, 162, 0, 20, 32, 42, 27, 21, 4, 182, 0, 101, 133, 97, 65, 132, 4, 1]
abbrev dktX2_mean_2 : List UInt8 := dkwX2_mean_2 ++ dktX2_mean_3
def dkwX2_mean_1 : List UInt8 := [42, 180, 0, 17, 27, 46, 154, 0, 9, 42, 7, 182, 0, 97, 172, 9, 65, 3, 54, 4, 21, 4, 42]
abbrev dktX2_mean_1 : List UInt8 := dkwX2_mean_1 ++ dktX2_mean_2
def dkwX2_mean_0 : List UInt8 := [27, 184, 0, 93, 154, 0, 5, 2, 172, 42, 180, 0, 17, 27, 46, 156, 0, 9, 42, 4, 182, 0, 97, 172]
abbrev dktX2_mean_0 : List UInt8 := dkwX2_mean_0 ++ dktX2_mean_1
theorem dksX2_mean_0 : cX2_mean.data.toList.drop 0 = dktX2_mean_0 := by decide +kernel
theorem dksX2_mean_1 : cX2_mean.data.toList.drop 24 = dktX2_mean_1 := dk_seg dksX2_mean_0 24 rfl rfl
theorem dksX2_mean_2 : cX2_mean.data.toList.drop 47 = dktX2_mean_2 := dk_seg dksX2_mean_1 23 rfl rfl
theorem dksX2_mean_3 : cX2_mean.data.toList.drop 69 = dktX2_mean_3 := dk_seg dksX2_mean_2 22 rfl rfl
theorem dX2_mean_0 : decode cX2_mean 0 = .ok (.iload_n 1, 1) := dk_27 (dk_at dksX2_mean_0 0 rfl rfl)
theorem dX2_mean_1 : decode cX2_mean 1 = .ok (.invokestatic 93, 3) := dk_184 0 93 (dk_at dksX2_mean_0 1 rfl rfl)
theorem dX2_mean_4 : decode cX2_mean 4 = .ok (.ifCond .ne 5, 3) := dk_154 0 5 (dk_at dksX2_mean_0 4 rfl rfl)
theorem dX2_mean_7 : decode cX2_mean 7 = .ok (.iconst (-1), 1) := dk_2 (dk_at dksX2_mean_0 7 rfl rfl)
theorem dX2_mean_8 : decode cX2_mean 8 = .ok (.ireturn, 1) := dk_172 (dk_at dksX2_mean_0 8 rfl rfl)
theorem dX2_mean_9 : decode cX2_mean 9 = .ok (.aload_n 0, 1) := dk_42 (dk_at dksX2_mean_0 9 rfl rfl)
theorem dX2_mean_10 : decode cX2_mean 10 = .ok (.getfield 17, 3) := dk_180 0 17 (dk_at dksX2_mean_0 10 rfl rfl)
theorem dX2_mean_13 : decode cX2_mean 13 = .ok (.iload_n 1, 1) := dk_27 (dk_at dksX2_mean_0 13 rfl rfl)
theorem dX2_mean_14 : decode cX2_mean 14 = .ok (.iaload, 1) := dk_46 (dk_at dksX2_mean_0 14 rfl rfl)
theorem dX2_mean_15 : decode cX2_mean 15 = .ok (.ifCond .ge 9, 3) := dk_156 0 9 (dk_at dksX2_mean_0 15 rfl rfl)
theorem dX2_mean_18 : decode cX2_mean 18 = .ok (.aload_n 0, 1) := dk_42 (dk_at dksX2_mean_0 18 rfl rfl)
theorem dX2_mean_19 : decode cX2_mean 19 = .ok (.iconst 1, 1) := dk_4 (dk_at dksX2_mean_0 19 rfl rfl)
theorem dX2_mean_20 : decode cX2_mean 20 = .ok (.invokevirtual 97, 3) := dk_182 0 97 (dk_at dksX2_mean_0 20 rfl rfl)
theorem dX2_mean_23 : decode cX2_mean 23 = .ok (.ireturn, 1) := dk_172 (dk_at dksX2_mean_0 23 rfl rfl)
theorem dX2_mean_24 : decode cX2_mean 24 = .ok (.aload_n 0, 1) := dk_42 (dk_at dksX2_mean_1 0 rfl rfl)
theorem dX2_mean_25 : decode cX2_mean 25 = .ok (.getfield 17, 3) := dk_180 0 17 (dk_at dksX2_mean_1 1 rfl rfl)
theorem dX2_mean_28 : decode cX2_mean 28 = .ok (.iload_n 1, 1) := dk_27 (dk_at dksX2_mean_1 4 rfl rfl)
theorem dX2_mean_29 : decode cX2_mean 29 = .ok (.iaload, 1) := dk_46 (dk_at dksX2_mean_1 5 rfl rfl)
theorem dX2_mean_30 : decode cX2_mean 30 = .ok (.ifCond .ne 9, 3) := dk_154 0 9 (dk_at dksX2_mean_1 6 rfl rfl)
theorem dX2_mean_33 : decode cX2_mean 33 = .ok (.aload_n 0, 1) := dk_42 (dk_at dksX2_mean_1 9 rfl rfl)
theorem dX2_mean_34 : decode cX2_mean 34 = .ok (.iconst 4, 1) := dk_7 (dk_at dksX2_mean_1 10 rfl rfl)
theorem dX2_mean_35 : decode cX2_mean 35 = .ok (.invokevirtual 97, 3) := dk_182 0 97 (dk_at dksX2_mean_1 11 rfl rfl)
theorem dX2_mean_38 : decode cX2_mean 38 = .ok (.ireturn, 1) := dk_172 (dk_at dksX2_mean_1 14 rfl rfl)
theorem dX2_mean_39 : decode cX2_mean 39 = .ok (.lconst 0, 1) := dk_9 (dk_at dksX2_mean_1 15 rfl rfl)
theorem dX2_mean_40 : decode cX2_mean 40 = .ok (.lstore_n 2, 1) := dk_65 (dk_at dksX2_mean_1 16 rfl rfl)
theorem dX2_mean_41 : decode cX2_mean 41 = .ok (.iconst 0, 1) := dk_3 (dk_at dksX2_mean_1 17 rfl rfl)
theorem dX2_mean_42 : decode cX2_mean 42 = .ok (.istore 4, 2) := dk_54 4 (dk_at dksX2_mean_1 18 rfl rfl)
theorem dX2_mean_44 : decode cX2_mean 44 = .ok (.iload 4, 2) := dk_21 4 (dk_at dksX2_mean_1 20 rfl rfl)
theorem dX2_mean_46 : decode cX2_mean 46 = .ok (.aload_n 0, 1) := dk_42 (dk_at dksX2_mean_1 22 rfl rfl)
theorem dX2_mean_47 : decode cX2_mean 47 = .ok (.getfield 17, 3) := dk_180 0 17 (dk_at dksX2_mean_2 0 rfl rfl)
theorem dX2_mean_50 : decode cX2_mean 50 = .ok (.iload_n 1, 1) := dk_27 (dk_at dksX2_mean_2 3 rfl rfl)
theorem dX2_mean_51 : decode cX2_mean 51 = .ok (.iaload, 1) := dk_46 (dk_at dksX2_mean_2 4 rfl rfl)
theorem dX2_mean_52 : decode cX2_mean 52 = .ok (.if_icmp .ge 20, 3) := dk_162 0 20 (dk_at dksX2_mean_2 5 rfl rfl)
theorem dX2_mean_55 : decode cX2_mean 55 = .ok (.lload_n 2, 1) := dk_32 (dk_at dksX2_mean_2 8 rfl rfl)
theorem dX2_mean_56 : decode cX2_mean 56 = .ok (.aload_n 0, 1) := dk_42 (dk_at dksX2_mean_2 9 rfl rfl)
theorem dX2_mean_57 : decode cX2_mean 57 = .ok (.iload_n 1, 1) := dk_27 (dk_at dksX2_mean_2 10 rfl rfl)
theorem dX2_mean_58 : decode cX2_mean 58 = .ok (.iload 4, 2) := dk_21 4 (dk_at dksX2_mean_2 11 rfl rfl)
theorem dX2_mean_60 : decode cX2_mean 60 = .ok (.invokevirtual 101, 3) := dk_182 0 101 (dk_at dksX2_mean_2 13 rfl rfl)
theorem dX2_mean_63 : decode cX2_mean 63 = .ok (.i2l, 1) := dk_133 (dk_at dksX2_mean_2 16 rfl rfl)
theorem dX2_mean_64 : decode cX2_mean 64 = .ok (.ladd, 1) := dk_97 (dk_at dksX2_mean_2 17 rfl rfl)
theorem dX2_mean_65 : decode cX2_mean 65 = .ok (.lstore_n 2, 1) := dk_65 (dk_at dksX2_mean_2 18 rfl rfl)
theorem dX2_mean_66 : decode cX2_mean 66 = .ok (.iinc 4 1, 3) := dk_132 4 1 (dk_at dksX2_mean_2 19 rfl rfl)
theorem dX2_mean_69 : decode cX2_mean 69 = .ok (.goto (-25), 3) := dk_167 255 231 (dk_at dksX2_mean_3 0 rfl rfl)
theorem dX2_mean_72 : decode cX2_mean 72 = .ok (.aload_n 0, 1) := dk_42 (dk_at dksX2_mean_3 3 rfl rfl)
theorem dX2_mean_73 : decode cX2_mean 73 = .ok (.lload_n 2, 1) := dk_32 (dk_at dksX2_mean_3 4 rfl rfl)
theorem dX2_mean_74 : decode cX2_mean 74 = .ok (.aload_n 0, 1) := dk_42 (dk_at dksX2_mean_3 5 rfl rfl)
theorem dX2_mean_75 : decode cX2_mean 75 = .ok (.getfield 17, 3) := dk_180 0 17 (dk_at dksX2_mean_3 6 rfl rfl)
theorem dX2_mean_78 : decode cX2_mean 78 = .ok (.iload_n 1, 1) := dk_27 (dk_at dksX2_mean_3 9 rfl rfl)
theorem dX2_mean_79 : decode cX2_mean 79 = .ok (.iaload, 1) := dk_46 (dk_at dksX2_mean_3 10 rfl rfl)
theorem dX2_mean_80 : decode cX2_mean 80 = .ok (.i2l, 1) := dk_133 (dk_at dksX2_mean_3 11 rfl rfl)
theorem dX2_mean_81 : decode cX2_mean 81 = .ok (.ldiv, 1) := dk_109 (dk_at dksX2_mean_3 12 rfl rfl)
theorem dX2_mean_82 : decode cX2_mean 82 = .ok (.l2i, 1) := dk_136 (dk_at dksX2_mean_3 13 rfl rfl)
theorem dX2_mean_83 : decode cX2_mean 83 = .ok (.iconst 1, 1) := dk_4 (dk_at dksX2_mean_3 14 rfl rfl)
theorem dX2_mean_84 : decode cX2_mean 84 = .ok (.invokevirtual 105, 3) := dk_182 0 105 (dk_at dksX2_mean_3 15 rfl rfl)
theorem dX2_mean_87 : decode cX2_mean 87 = .ok (.ireturn, 1) := dk_172 (dk_at dksX2_mean_3 18 rfl rfl)
abbrev cX2_text : ByteArray := prog_11_method_24_code
def yX2_text : MethodName := ⟨RX2, "text", "(II)I"⟩
def dkwX2_text_2 : List UInt8 := [29, 96, 16, 32, 84, 132, 3, 1, 167, 255, 234, 28, 172]
abbrev dktX2_text_2 : List UInt8 := dkwX2_text_2 ++ []
def dkwX2_text_1 : List UInt8 := [172, 42, 180, 0, 26, 27, 28, 79, 3, 62, 29, 16, 60, 162, 0, 22, 42, 180, 0, 29, 16, 60, 27, 104]
abbrev dktX2_text_1 : List UInt8 := dkwX2_text_1 ++ dktX2_text_2
def dkwX2_text_0 : List UInt8 := [27, 184, 0, 108, 153, 0, 9, 28, 16, 60, 164, 0, 5, 2, 172, 28, 156, 0, 9, 42, 8, 182, 0, 97]
abbrev dktX2_text_0 : List UInt8 := dkwX2_text_0 ++ dktX2_text_1
theorem dksX2_text_0 : cX2_text.data.toList.drop 0 = dktX2_text_0 := by decide +kernel
theorem dksX2_text_1 : cX2_text.data.toList.drop 24 = dktX2_text_1 := dk_seg dksX2_text_0 24 rfl rfl
theorem dksX2_text_2 : cX2_text.data.toList.drop 48 = dktX2_text_2 := dk_seg dksX2_text_1 24 rfl rfl
theorem dX2_text_0 : decode cX2_text 0 = .ok (.iload_n 1, 1) := dk_27 (dk_at dksX2_text_0 0 rfl rfl)
theorem dX2_text_1 : decode cX2_text 1 = .ok (.invokestatic 108, 3) := dk_184 0 108 (dk_at dksX2_text_0 1 rfl rfl)
theorem dX2_text_4 : decode cX2_text 4 = .ok (.ifCond .eq 9, 3) := dk_153 0 9 (dk_at dksX2_text_0 4 rfl rfl)
theorem dX2_text_7 : decode cX2_text 7 = .ok (.iload_n 2, 1) := dk_28 (dk_at dksX2_text_0 7 rfl rfl)
theorem dX2_text_8 : decode cX2_text 8 = .ok (.bipush 60, 2) := dk_16 60 (dk_at dksX2_text_0 8 rfl rfl)
theorem dX2_text_10 : decode cX2_text 10 = .ok (.if_icmp .le 5, 3) := dk_164 0 5 (dk_at dksX2_text_0 10 rfl rfl)
theorem dX2_text_13 : decode cX2_text 13 = .ok (.iconst (-1), 1) := dk_2 (dk_at dksX2_text_0 13 rfl rfl)
theorem dX2_text_14 : decode cX2_text 14 = .ok (.ireturn, 1) := dk_172 (dk_at dksX2_text_0 14 rfl rfl)
theorem dX2_text_15 : decode cX2_text 15 = .ok (.iload_n 2, 1) := dk_28 (dk_at dksX2_text_0 15 rfl rfl)
theorem dX2_text_16 : decode cX2_text 16 = .ok (.ifCond .ge 9, 3) := dk_156 0 9 (dk_at dksX2_text_0 16 rfl rfl)
theorem dX2_text_19 : decode cX2_text 19 = .ok (.aload_n 0, 1) := dk_42 (dk_at dksX2_text_0 19 rfl rfl)
theorem dX2_text_20 : decode cX2_text 20 = .ok (.iconst 5, 1) := dk_8 (dk_at dksX2_text_0 20 rfl rfl)
theorem dX2_text_21 : decode cX2_text 21 = .ok (.invokevirtual 97, 3) := dk_182 0 97 (dk_at dksX2_text_0 21 rfl rfl)
theorem dX2_text_24 : decode cX2_text 24 = .ok (.ireturn, 1) := dk_172 (dk_at dksX2_text_1 0 rfl rfl)
theorem dX2_text_25 : decode cX2_text 25 = .ok (.aload_n 0, 1) := dk_42 (dk_at dksX2_text_1 1 rfl rfl)
theorem dX2_text_26 : decode cX2_text 26 = .ok (.getfield 26, 3) := dk_180 0 26 (dk_at dksX2_text_1 2 rfl rfl)
theorem dX2_text_29 : decode cX2_text 29 = .ok (.iload_n 1, 1) := dk_27 (dk_at dksX2_text_1 5 rfl rfl)
theorem dX2_text_30 : decode cX2_text 30 = .ok (.iload_n 2, 1) := dk_28 (dk_at dksX2_text_1 6 rfl rfl)
theorem dX2_text_31 : decode cX2_text 31 = .ok (.iastore, 1) := dk_79 (dk_at dksX2_text_1 7 rfl rfl)
theorem dX2_text_32 : decode cX2_text 32 = .ok (.iconst 0, 1) := dk_3 (dk_at dksX2_text_1 8 rfl rfl)
theorem dX2_text_33 : decode cX2_text 33 = .ok (.istore_n 3, 1) := dk_62 (dk_at dksX2_text_1 9 rfl rfl)
theorem dX2_text_34 : decode cX2_text 34 = .ok (.iload_n 3, 1) := dk_29 (dk_at dksX2_text_1 10 rfl rfl)
theorem dX2_text_35 : decode cX2_text 35 = .ok (.bipush 60, 2) := dk_16 60 (dk_at dksX2_text_1 11 rfl rfl)
theorem dX2_text_37 : decode cX2_text 37 = .ok (.if_icmp .ge 22, 3) := dk_162 0 22 (dk_at dksX2_text_1 13 rfl rfl)
theorem dX2_text_40 : decode cX2_text 40 = .ok (.aload_n 0, 1) := dk_42 (dk_at dksX2_text_1 16 rfl rfl)
theorem dX2_text_41 : decode cX2_text 41 = .ok (.getfield 29, 3) := dk_180 0 29 (dk_at dksX2_text_1 17 rfl rfl)
theorem dX2_text_44 : decode cX2_text 44 = .ok (.bipush 60, 2) := dk_16 60 (dk_at dksX2_text_1 20 rfl rfl)
theorem dX2_text_46 : decode cX2_text 46 = .ok (.iload_n 1, 1) := dk_27 (dk_at dksX2_text_1 22 rfl rfl)
theorem dX2_text_47 : decode cX2_text 47 = .ok (.imul, 1) := dk_104 (dk_at dksX2_text_1 23 rfl rfl)
theorem dX2_text_48 : decode cX2_text 48 = .ok (.iload_n 3, 1) := dk_29 (dk_at dksX2_text_2 0 rfl rfl)
theorem dX2_text_49 : decode cX2_text 49 = .ok (.iadd, 1) := dk_96 (dk_at dksX2_text_2 1 rfl rfl)
theorem dX2_text_50 : decode cX2_text 50 = .ok (.bipush 32, 2) := dk_16 32 (dk_at dksX2_text_2 2 rfl rfl)
theorem dX2_text_52 : decode cX2_text 52 = .ok (.bastore, 1) := dk_84 (dk_at dksX2_text_2 4 rfl rfl)
theorem dX2_text_53 : decode cX2_text 53 = .ok (.iinc 3 1, 3) := dk_132 3 1 (dk_at dksX2_text_2 5 rfl rfl)
theorem dX2_text_56 : decode cX2_text 56 = .ok (.goto (-22), 3) := dk_167 255 234 (dk_at dksX2_text_2 8 rfl rfl)
theorem dX2_text_59 : decode cX2_text 59 = .ok (.iload_n 2, 1) := dk_28 (dk_at dksX2_text_2 11 rfl rfl)
theorem dX2_text_60 : decode cX2_text 60 = .ok (.ireturn, 1) := dk_172 (dk_at dksX2_text_2 12 rfl rfl)
abbrev cX2_isText : ByteArray := prog_11_method_23_code
def yX2_isText : MethodName := ⟨RX2, "isText", "(I)Z"⟩
def dkwX2_isText_0 : List UInt8 := [26, 3, 6, 184, 0, 83, 172]
abbrev dktX2_isText_0 : List UInt8 := dkwX2_isText_0 ++ []
theorem dksX2_isText_0 : cX2_isText.data.toList.drop 0 = dktX2_isText_0 := by decide +kernel
theorem dX2_isText_0 : decode cX2_isText 0 = .ok (.iload_n 0, 1) := dk_26 (dk_at dksX2_isText_0 0 rfl rfl)
theorem dX2_isText_1 : decode cX2_isText 1 = .ok (.iconst 0, 1) := dk_3 (dk_at dksX2_isText_0 1 rfl rfl)
theorem dX2_isText_2 : decode cX2_isText 2 = .ok (.iconst 3, 1) := dk_6 (dk_at dksX2_isText_0 2 rfl rfl)
theorem dX2_isText_3 : decode cX2_isText 3 = .ok (.invokestatic 83, 3) := dk_184 0 83 (dk_at dksX2_isText_0 3 rfl rfl)
theorem dX2_isText_6 : decode cX2_isText 6 = .ok (.ireturn, 1) := dk_172 (dk_at dksX2_isText_0 6 rfl rfl)
abbrev cX2_put : ByteArray := prog_11_method_25_code
def yX2_put : MethodName := ⟨RX2, "put", "(III)I"⟩
def dkwX2_put_3 : List UInt8 := [84, 17, 3, 232, 21, 4, 96, 172]
abbrev dktX2_put_3 : List UInt8 := dkwX2_put_3 ++ []
def dkwX2_put_2 : List UInt8 := [180, 0, 29, 16, 60, 27, 104, 28, 96, 51, 54, 4, 42, 180, 0, 29, 16, 60, 27, 104, 28, 96, 29, 145]
abbrev dktX2_put_2 : List UInt8 := dkwX2_put_2 ++ dktX2_put_3
def dkwX2_put_1 : List UInt8 := [28, 3, 42, 180, 0, 26, 27, 46, 4, 100, 184, 0, 83, 154, 0, 9, 42, 5, 182, 0, 97, 172, 42]
abbrev dktX2_put_1 : List UInt8 := dkwX2_put_1 ++ dktX2_put_2
def dkwX2_put_0 : List UInt8 := [27, 184, 0, 108, 154, 0, 5, 2, 172, 42, 180, 0, 26, 27, 46, 156, 0, 9, 42, 4, 182, 0, 97, 172]
abbrev dktX2_put_0 : List UInt8 := dkwX2_put_0 ++ dktX2_put_1
theorem dksX2_put_0 : cX2_put.data.toList.drop 0 = dktX2_put_0 := by decide +kernel
theorem dksX2_put_1 : cX2_put.data.toList.drop 24 = dktX2_put_1 := dk_seg dksX2_put_0 24 rfl rfl
theorem dksX2_put_2 : cX2_put.data.toList.drop 47 = dktX2_put_2 := dk_seg dksX2_put_1 23 rfl rfl
theorem dksX2_put_3 : cX2_put.data.toList.drop 71 = dktX2_put_3 := dk_seg dksX2_put_2 24 rfl rfl
theorem dX2_put_0 : decode cX2_put 0 = .ok (.iload_n 1, 1) := dk_27 (dk_at dksX2_put_0 0 rfl rfl)
theorem dX2_put_1 : decode cX2_put 1 = .ok (.invokestatic 108, 3) := dk_184 0 108 (dk_at dksX2_put_0 1 rfl rfl)
theorem dX2_put_4 : decode cX2_put 4 = .ok (.ifCond .ne 5, 3) := dk_154 0 5 (dk_at dksX2_put_0 4 rfl rfl)
theorem dX2_put_7 : decode cX2_put 7 = .ok (.iconst (-1), 1) := dk_2 (dk_at dksX2_put_0 7 rfl rfl)
theorem dX2_put_8 : decode cX2_put 8 = .ok (.ireturn, 1) := dk_172 (dk_at dksX2_put_0 8 rfl rfl)
theorem dX2_put_9 : decode cX2_put 9 = .ok (.aload_n 0, 1) := dk_42 (dk_at dksX2_put_0 9 rfl rfl)
theorem dX2_put_10 : decode cX2_put 10 = .ok (.getfield 26, 3) := dk_180 0 26 (dk_at dksX2_put_0 10 rfl rfl)
theorem dX2_put_13 : decode cX2_put 13 = .ok (.iload_n 1, 1) := dk_27 (dk_at dksX2_put_0 13 rfl rfl)
theorem dX2_put_14 : decode cX2_put 14 = .ok (.iaload, 1) := dk_46 (dk_at dksX2_put_0 14 rfl rfl)
theorem dX2_put_15 : decode cX2_put 15 = .ok (.ifCond .ge 9, 3) := dk_156 0 9 (dk_at dksX2_put_0 15 rfl rfl)
theorem dX2_put_18 : decode cX2_put 18 = .ok (.aload_n 0, 1) := dk_42 (dk_at dksX2_put_0 18 rfl rfl)
theorem dX2_put_19 : decode cX2_put 19 = .ok (.iconst 1, 1) := dk_4 (dk_at dksX2_put_0 19 rfl rfl)
theorem dX2_put_20 : decode cX2_put 20 = .ok (.invokevirtual 97, 3) := dk_182 0 97 (dk_at dksX2_put_0 20 rfl rfl)
theorem dX2_put_23 : decode cX2_put 23 = .ok (.ireturn, 1) := dk_172 (dk_at dksX2_put_0 23 rfl rfl)
theorem dX2_put_24 : decode cX2_put 24 = .ok (.iload_n 2, 1) := dk_28 (dk_at dksX2_put_1 0 rfl rfl)
theorem dX2_put_25 : decode cX2_put 25 = .ok (.iconst 0, 1) := dk_3 (dk_at dksX2_put_1 1 rfl rfl)
theorem dX2_put_26 : decode cX2_put 26 = .ok (.aload_n 0, 1) := dk_42 (dk_at dksX2_put_1 2 rfl rfl)
theorem dX2_put_27 : decode cX2_put 27 = .ok (.getfield 26, 3) := dk_180 0 26 (dk_at dksX2_put_1 3 rfl rfl)
theorem dX2_put_30 : decode cX2_put 30 = .ok (.iload_n 1, 1) := dk_27 (dk_at dksX2_put_1 6 rfl rfl)
theorem dX2_put_31 : decode cX2_put 31 = .ok (.iaload, 1) := dk_46 (dk_at dksX2_put_1 7 rfl rfl)
theorem dX2_put_32 : decode cX2_put 32 = .ok (.iconst 1, 1) := dk_4 (dk_at dksX2_put_1 8 rfl rfl)
theorem dX2_put_33 : decode cX2_put 33 = .ok (.isub, 1) := dk_100 (dk_at dksX2_put_1 9 rfl rfl)
theorem dX2_put_34 : decode cX2_put 34 = .ok (.invokestatic 83, 3) := dk_184 0 83 (dk_at dksX2_put_1 10 rfl rfl)
theorem dX2_put_37 : decode cX2_put 37 = .ok (.ifCond .ne 9, 3) := dk_154 0 9 (dk_at dksX2_put_1 13 rfl rfl)
theorem dX2_put_40 : decode cX2_put 40 = .ok (.aload_n 0, 1) := dk_42 (dk_at dksX2_put_1 16 rfl rfl)
theorem dX2_put_41 : decode cX2_put 41 = .ok (.iconst 2, 1) := dk_5 (dk_at dksX2_put_1 17 rfl rfl)
theorem dX2_put_42 : decode cX2_put 42 = .ok (.invokevirtual 97, 3) := dk_182 0 97 (dk_at dksX2_put_1 18 rfl rfl)
theorem dX2_put_45 : decode cX2_put 45 = .ok (.ireturn, 1) := dk_172 (dk_at dksX2_put_1 21 rfl rfl)
theorem dX2_put_46 : decode cX2_put 46 = .ok (.aload_n 0, 1) := dk_42 (dk_at dksX2_put_1 22 rfl rfl)
theorem dX2_put_47 : decode cX2_put 47 = .ok (.getfield 29, 3) := dk_180 0 29 (dk_at dksX2_put_2 0 rfl rfl)
theorem dX2_put_50 : decode cX2_put 50 = .ok (.bipush 60, 2) := dk_16 60 (dk_at dksX2_put_2 3 rfl rfl)
theorem dX2_put_52 : decode cX2_put 52 = .ok (.iload_n 1, 1) := dk_27 (dk_at dksX2_put_2 5 rfl rfl)
theorem dX2_put_53 : decode cX2_put 53 = .ok (.imul, 1) := dk_104 (dk_at dksX2_put_2 6 rfl rfl)
theorem dX2_put_54 : decode cX2_put 54 = .ok (.iload_n 2, 1) := dk_28 (dk_at dksX2_put_2 7 rfl rfl)
theorem dX2_put_55 : decode cX2_put 55 = .ok (.iadd, 1) := dk_96 (dk_at dksX2_put_2 8 rfl rfl)
theorem dX2_put_56 : decode cX2_put 56 = .ok (.baload, 1) := dk_51 (dk_at dksX2_put_2 9 rfl rfl)
theorem dX2_put_57 : decode cX2_put 57 = .ok (.istore 4, 2) := dk_54 4 (dk_at dksX2_put_2 10 rfl rfl)
theorem dX2_put_59 : decode cX2_put 59 = .ok (.aload_n 0, 1) := dk_42 (dk_at dksX2_put_2 12 rfl rfl)
theorem dX2_put_60 : decode cX2_put 60 = .ok (.getfield 29, 3) := dk_180 0 29 (dk_at dksX2_put_2 13 rfl rfl)
theorem dX2_put_63 : decode cX2_put 63 = .ok (.bipush 60, 2) := dk_16 60 (dk_at dksX2_put_2 16 rfl rfl)
theorem dX2_put_65 : decode cX2_put 65 = .ok (.iload_n 1, 1) := dk_27 (dk_at dksX2_put_2 18 rfl rfl)
theorem dX2_put_66 : decode cX2_put 66 = .ok (.imul, 1) := dk_104 (dk_at dksX2_put_2 19 rfl rfl)
theorem dX2_put_67 : decode cX2_put 67 = .ok (.iload_n 2, 1) := dk_28 (dk_at dksX2_put_2 20 rfl rfl)
theorem dX2_put_68 : decode cX2_put 68 = .ok (.iadd, 1) := dk_96 (dk_at dksX2_put_2 21 rfl rfl)
theorem dX2_put_69 : decode cX2_put 69 = .ok (.iload_n 3, 1) := dk_29 (dk_at dksX2_put_2 22 rfl rfl)
theorem dX2_put_70 : decode cX2_put 70 = .ok (.i2b, 1) := dk_145 (dk_at dksX2_put_2 23 rfl rfl)
theorem dX2_put_71 : decode cX2_put 71 = .ok (.bastore, 1) := dk_84 (dk_at dksX2_put_3 0 rfl rfl)
theorem dX2_put_72 : decode cX2_put 72 = .ok (.sipush 1000, 3) := dk_17 3 232 (dk_at dksX2_put_3 1 rfl rfl)
theorem dX2_put_75 : decode cX2_put 75 = .ok (.iload 4, 2) := dk_21 4 (dk_at dksX2_put_3 4 rfl rfl)
theorem dX2_put_77 : decode cX2_put 77 = .ok (.iadd, 1) := dk_96 (dk_at dksX2_put_3 6 rfl rfl)
theorem dX2_put_78 : decode cX2_put 78 = .ok (.ireturn, 1) := dk_172 (dk_at dksX2_put_3 7 rfl rfl)
abbrev cX2_fault : ByteArray := prog_11_method_33_code
def yX2_fault : MethodName := ⟨RX2, "fault", "(I)I"⟩
def dkwX2_fault_1 : List UInt8 := [167, 0, 8, 42, 27, 182, 0, 139, 172]
abbrev dktX2_fault_1 : List UInt8 := dkwX2_fault_1 ++ []
def dkwX2_fault_0 : List UInt8 := [27, 184, 0, 108, 154, 0, 5, 2, 172, 42, 180, 0, 26, 27, 46, 156, 0, 11, 42, 4, 182, 0, 97]
abbrev dktX2_fault_0 : List UInt8 := dkwX2_fault_0 ++ dktX2_fault_1
theorem dksX2_fault_0 : cX2_fault.data.toList.drop 0 = dktX2_fault_0 := by decide +kernel
theorem dksX2_fault_1 : cX2_fault.data.toList.drop 23 = dktX2_fault_1 := dk_seg dksX2_fault_0 23 rfl rfl
theorem dX2_fault_0 : decode cX2_fault 0 = .ok (.iload_n 1, 1) := dk_27 (dk_at dksX2_fault_0 0 rfl rfl)
theorem dX2_fault_1 : decode cX2_fault 1 = .ok (.invokestatic 108, 3) := dk_184 0 108 (dk_at dksX2_fault_0 1 rfl rfl)
theorem dX2_fault_4 : decode cX2_fault 4 = .ok (.ifCond .ne 5, 3) := dk_154 0 5 (dk_at dksX2_fault_0 4 rfl rfl)
theorem dX2_fault_7 : decode cX2_fault 7 = .ok (.iconst (-1), 1) := dk_2 (dk_at dksX2_fault_0 7 rfl rfl)
theorem dX2_fault_8 : decode cX2_fault 8 = .ok (.ireturn, 1) := dk_172 (dk_at dksX2_fault_0 8 rfl rfl)
theorem dX2_fault_9 : decode cX2_fault 9 = .ok (.aload_n 0, 1) := dk_42 (dk_at dksX2_fault_0 9 rfl rfl)
theorem dX2_fault_10 : decode cX2_fault 10 = .ok (.getfield 26, 3) := dk_180 0 26 (dk_at dksX2_fault_0 10 rfl rfl)
theorem dX2_fault_13 : decode cX2_fault 13 = .ok (.iload_n 1, 1) := dk_27 (dk_at dksX2_fault_0 13 rfl rfl)
theorem dX2_fault_14 : decode cX2_fault 14 = .ok (.iaload, 1) := dk_46 (dk_at dksX2_fault_0 14 rfl rfl)
theorem dX2_fault_15 : decode cX2_fault 15 = .ok (.ifCond .ge 11, 3) := dk_156 0 11 (dk_at dksX2_fault_0 15 rfl rfl)
theorem dX2_fault_18 : decode cX2_fault 18 = .ok (.aload_n 0, 1) := dk_42 (dk_at dksX2_fault_0 18 rfl rfl)
theorem dX2_fault_19 : decode cX2_fault 19 = .ok (.iconst 1, 1) := dk_4 (dk_at dksX2_fault_0 19 rfl rfl)
theorem dX2_fault_20 : decode cX2_fault 20 = .ok (.invokevirtual 97, 3) := dk_182 0 97 (dk_at dksX2_fault_0 20 rfl rfl)
theorem dX2_fault_23 : decode cX2_fault 23 = .ok (.goto 8, 3) := dk_167 0 8 (dk_at dksX2_fault_1 0 rfl rfl)
theorem dX2_fault_26 : decode cX2_fault 26 = .ok (.aload_n 0, 1) := dk_42 (dk_at dksX2_fault_1 3 rfl rfl)
theorem dX2_fault_27 : decode cX2_fault 27 = .ok (.iload_n 1, 1) := dk_27 (dk_at dksX2_fault_1 4 rfl rfl)
theorem dX2_fault_28 : decode cX2_fault 28 = .ok (.invokevirtual 139, 3) := dk_182 0 139 (dk_at dksX2_fault_1 5 rfl rfl)
theorem dX2_fault_31 : decode cX2_fault 31 = .ok (.ireturn, 1) := dk_172 (dk_at dksX2_fault_1 8 rfl rfl)
abbrev cX2_faultOf : ByteArray := prog_11_method_32_code
def yX2_faultOf : MethodName := ⟨RX2, "faultOf", "(I)I"⟩
def dkwX2_faultOf_4 : List UInt8 := [180, 0, 26, 27, 46, 167, 0, 5, 16, 247, 172]
abbrev dktX2_faultOf_4 : List UInt8 := dkwX2_faultOf_4 ++ []
def dkwX2_faultOf_3 : List UInt8 := [167, 255, 201, 42, 27, 182, 0, 136, 154, 255, 193, 42, 180, 0, 111, 172, 42, 180, 0, 124, 154, 0, 12, 42]
abbrev dktX2_faultOf_3 : List UInt8 := dkwX2_faultOf_3 ++ dktX2_faultOf_4
def dkwX2_faultOf_2 : List UInt8 := [96, 181, 0, 111, 167, 255, 219, 42, 180, 0, 124, 154, 0, 14, 42, 27, 182, 0, 133, 153, 0, 14]
abbrev dktX2_faultOf_2 : List UInt8 := dkwX2_faultOf_2 ++ dktX2_faultOf_3
def dkwX2_faultOf_1 : List UInt8 := [46, 162, 0, 61, 42, 27, 42, 180, 0, 111, 182, 0, 114, 16, 32, 160, 0, 16, 42, 89, 180, 0, 111, 4]
abbrev dktX2_faultOf_1 : List UInt8 := dkwX2_faultOf_1 ++ dktX2_faultOf_2
def dkwX2_faultOf_0 : List UInt8 := [42, 3, 181, 0, 111, 42, 3, 181, 0, 124, 42, 3, 181, 0, 130, 42, 180, 0, 111, 42, 180, 0, 26, 27]
abbrev dktX2_faultOf_0 : List UInt8 := dkwX2_faultOf_0 ++ dktX2_faultOf_1
theorem dksX2_faultOf_0 : cX2_faultOf.data.toList.drop 0 = dktX2_faultOf_0 := by decide +kernel
theorem dksX2_faultOf_1 : cX2_faultOf.data.toList.drop 24 = dktX2_faultOf_1 := dk_seg dksX2_faultOf_0 24 rfl rfl
theorem dksX2_faultOf_2 : cX2_faultOf.data.toList.drop 48 = dktX2_faultOf_2 := dk_seg dksX2_faultOf_1 24 rfl rfl
theorem dksX2_faultOf_3 : cX2_faultOf.data.toList.drop 70 = dktX2_faultOf_3 := dk_seg dksX2_faultOf_2 22 rfl rfl
theorem dksX2_faultOf_4 : cX2_faultOf.data.toList.drop 94 = dktX2_faultOf_4 := dk_seg dksX2_faultOf_3 24 rfl rfl
theorem dX2_faultOf_0 : decode cX2_faultOf 0 = .ok (.aload_n 0, 1) := dk_42 (dk_at dksX2_faultOf_0 0 rfl rfl)
theorem dX2_faultOf_1 : decode cX2_faultOf 1 = .ok (.iconst 0, 1) := dk_3 (dk_at dksX2_faultOf_0 1 rfl rfl)
theorem dX2_faultOf_2 : decode cX2_faultOf 2 = .ok (.putfield 111, 3) := dk_181 0 111 (dk_at dksX2_faultOf_0 2 rfl rfl)
theorem dX2_faultOf_5 : decode cX2_faultOf 5 = .ok (.aload_n 0, 1) := dk_42 (dk_at dksX2_faultOf_0 5 rfl rfl)
theorem dX2_faultOf_6 : decode cX2_faultOf 6 = .ok (.iconst 0, 1) := dk_3 (dk_at dksX2_faultOf_0 6 rfl rfl)
theorem dX2_faultOf_7 : decode cX2_faultOf 7 = .ok (.putfield 124, 3) := dk_181 0 124 (dk_at dksX2_faultOf_0 7 rfl rfl)
theorem dX2_faultOf_10 : decode cX2_faultOf 10 = .ok (.aload_n 0, 1) := dk_42 (dk_at dksX2_faultOf_0 10 rfl rfl)
theorem dX2_faultOf_11 : decode cX2_faultOf 11 = .ok (.iconst 0, 1) := dk_3 (dk_at dksX2_faultOf_0 11 rfl rfl)
theorem dX2_faultOf_12 : decode cX2_faultOf 12 = .ok (.putfield 130, 3) := dk_181 0 130 (dk_at dksX2_faultOf_0 12 rfl rfl)
theorem dX2_faultOf_15 : decode cX2_faultOf 15 = .ok (.aload_n 0, 1) := dk_42 (dk_at dksX2_faultOf_0 15 rfl rfl)
theorem dX2_faultOf_16 : decode cX2_faultOf 16 = .ok (.getfield 111, 3) := dk_180 0 111 (dk_at dksX2_faultOf_0 16 rfl rfl)
theorem dX2_faultOf_19 : decode cX2_faultOf 19 = .ok (.aload_n 0, 1) := dk_42 (dk_at dksX2_faultOf_0 19 rfl rfl)
theorem dX2_faultOf_20 : decode cX2_faultOf 20 = .ok (.getfield 26, 3) := dk_180 0 26 (dk_at dksX2_faultOf_0 20 rfl rfl)
theorem dX2_faultOf_23 : decode cX2_faultOf 23 = .ok (.iload_n 1, 1) := dk_27 (dk_at dksX2_faultOf_0 23 rfl rfl)
theorem dX2_faultOf_24 : decode cX2_faultOf 24 = .ok (.iaload, 1) := dk_46 (dk_at dksX2_faultOf_1 0 rfl rfl)
theorem dX2_faultOf_25 : decode cX2_faultOf 25 = .ok (.if_icmp .ge 61, 3) := dk_162 0 61 (dk_at dksX2_faultOf_1 1 rfl rfl)
theorem dX2_faultOf_28 : decode cX2_faultOf 28 = .ok (.aload_n 0, 1) := dk_42 (dk_at dksX2_faultOf_1 4 rfl rfl)
theorem dX2_faultOf_29 : decode cX2_faultOf 29 = .ok (.iload_n 1, 1) := dk_27 (dk_at dksX2_faultOf_1 5 rfl rfl)
theorem dX2_faultOf_30 : decode cX2_faultOf 30 = .ok (.aload_n 0, 1) := dk_42 (dk_at dksX2_faultOf_1 6 rfl rfl)
theorem dX2_faultOf_31 : decode cX2_faultOf 31 = .ok (.getfield 111, 3) := dk_180 0 111 (dk_at dksX2_faultOf_1 7 rfl rfl)
theorem dX2_faultOf_34 : decode cX2_faultOf 34 = .ok (.invokevirtual 114, 3) := dk_182 0 114 (dk_at dksX2_faultOf_1 10 rfl rfl)
theorem dX2_faultOf_37 : decode cX2_faultOf 37 = .ok (.bipush 32, 2) := dk_16 32 (dk_at dksX2_faultOf_1 13 rfl rfl)
theorem dX2_faultOf_39 : decode cX2_faultOf 39 = .ok (.if_icmp .ne 16, 3) := dk_160 0 16 (dk_at dksX2_faultOf_1 15 rfl rfl)
theorem dX2_faultOf_42 : decode cX2_faultOf 42 = .ok (.aload_n 0, 1) := dk_42 (dk_at dksX2_faultOf_1 18 rfl rfl)
theorem dX2_faultOf_43 : decode cX2_faultOf 43 = .ok (.dup, 1) := dk_89 (dk_at dksX2_faultOf_1 19 rfl rfl)
theorem dX2_faultOf_44 : decode cX2_faultOf 44 = .ok (.getfield 111, 3) := dk_180 0 111 (dk_at dksX2_faultOf_1 20 rfl rfl)
theorem dX2_faultOf_47 : decode cX2_faultOf 47 = .ok (.iconst 1, 1) := dk_4 (dk_at dksX2_faultOf_1 23 rfl rfl)
theorem dX2_faultOf_48 : decode cX2_faultOf 48 = .ok (.iadd, 1) := dk_96 (dk_at dksX2_faultOf_2 0 rfl rfl)
theorem dX2_faultOf_49 : decode cX2_faultOf 49 = .ok (.putfield 111, 3) := dk_181 0 111 (dk_at dksX2_faultOf_2 1 rfl rfl)
theorem dX2_faultOf_52 : decode cX2_faultOf 52 = .ok (.goto (-37), 3) := dk_167 255 219 (dk_at dksX2_faultOf_2 4 rfl rfl)
theorem dX2_faultOf_55 : decode cX2_faultOf 55 = .ok (.aload_n 0, 1) := dk_42 (dk_at dksX2_faultOf_2 7 rfl rfl)
theorem dX2_faultOf_56 : decode cX2_faultOf 56 = .ok (.getfield 124, 3) := dk_180 0 124 (dk_at dksX2_faultOf_2 8 rfl rfl)
theorem dX2_faultOf_59 : decode cX2_faultOf 59 = .ok (.ifCond .ne 14, 3) := dk_154 0 14 (dk_at dksX2_faultOf_2 11 rfl rfl)
theorem dX2_faultOf_62 : decode cX2_faultOf 62 = .ok (.aload_n 0, 1) := dk_42 (dk_at dksX2_faultOf_2 14 rfl rfl)
theorem dX2_faultOf_63 : decode cX2_faultOf 63 = .ok (.iload_n 1, 1) := dk_27 (dk_at dksX2_faultOf_2 15 rfl rfl)
theorem dX2_faultOf_64 : decode cX2_faultOf 64 = .ok (.invokevirtual 133, 3) := dk_182 0 133 (dk_at dksX2_faultOf_2 16 rfl rfl)
theorem dX2_faultOf_67 : decode cX2_faultOf 67 = .ok (.ifCond .eq 14, 3) := dk_153 0 14 (dk_at dksX2_faultOf_2 19 rfl rfl)
theorem dX2_faultOf_70 : decode cX2_faultOf 70 = .ok (.goto (-55), 3) := dk_167 255 201 (dk_at dksX2_faultOf_3 0 rfl rfl)
theorem dX2_faultOf_73 : decode cX2_faultOf 73 = .ok (.aload_n 0, 1) := dk_42 (dk_at dksX2_faultOf_3 3 rfl rfl)
theorem dX2_faultOf_74 : decode cX2_faultOf 74 = .ok (.iload_n 1, 1) := dk_27 (dk_at dksX2_faultOf_3 4 rfl rfl)
theorem dX2_faultOf_75 : decode cX2_faultOf 75 = .ok (.invokevirtual 136, 3) := dk_182 0 136 (dk_at dksX2_faultOf_3 5 rfl rfl)
theorem dX2_faultOf_78 : decode cX2_faultOf 78 = .ok (.ifCond .ne (-63), 3) := dk_154 255 193 (dk_at dksX2_faultOf_3 8 rfl rfl)
theorem dX2_faultOf_81 : decode cX2_faultOf 81 = .ok (.aload_n 0, 1) := dk_42 (dk_at dksX2_faultOf_3 11 rfl rfl)
theorem dX2_faultOf_82 : decode cX2_faultOf 82 = .ok (.getfield 111, 3) := dk_180 0 111 (dk_at dksX2_faultOf_3 12 rfl rfl)
theorem dX2_faultOf_85 : decode cX2_faultOf 85 = .ok (.ireturn, 1) := dk_172 (dk_at dksX2_faultOf_3 15 rfl rfl)
theorem dX2_faultOf_86 : decode cX2_faultOf 86 = .ok (.aload_n 0, 1) := dk_42 (dk_at dksX2_faultOf_3 16 rfl rfl)
theorem dX2_faultOf_87 : decode cX2_faultOf 87 = .ok (.getfield 124, 3) := dk_180 0 124 (dk_at dksX2_faultOf_3 17 rfl rfl)
theorem dX2_faultOf_90 : decode cX2_faultOf 90 = .ok (.ifCond .ne 12, 3) := dk_154 0 12 (dk_at dksX2_faultOf_3 20 rfl rfl)
theorem dX2_faultOf_93 : decode cX2_faultOf 93 = .ok (.aload_n 0, 1) := dk_42 (dk_at dksX2_faultOf_3 23 rfl rfl)
theorem dX2_faultOf_94 : decode cX2_faultOf 94 = .ok (.getfield 26, 3) := dk_180 0 26 (dk_at dksX2_faultOf_4 0 rfl rfl)
theorem dX2_faultOf_97 : decode cX2_faultOf 97 = .ok (.iload_n 1, 1) := dk_27 (dk_at dksX2_faultOf_4 3 rfl rfl)
theorem dX2_faultOf_98 : decode cX2_faultOf 98 = .ok (.iaload, 1) := dk_46 (dk_at dksX2_faultOf_4 4 rfl rfl)
theorem dX2_faultOf_99 : decode cX2_faultOf 99 = .ok (.goto 5, 3) := dk_167 0 5 (dk_at dksX2_faultOf_4 5 rfl rfl)
theorem dX2_faultOf_102 : decode cX2_faultOf 102 = .ok (.bipush (-9), 2) := dk_16 247 (dk_at dksX2_faultOf_4 8 rfl rfl)
theorem dX2_faultOf_104 : decode cX2_faultOf 104 = .ok (.ireturn, 1) := dk_172 (dk_at dksX2_faultOf_4 10 rfl rfl)
abbrev cX2_byteAt : ByteArray := prog_11_method_26_code
def yX2_byteAt : MethodName := ⟨RX2, "byteAt", "(II)I"⟩
def dkwX2_byteAt_1 : List UInt8 := [3, 172]
abbrev dktX2_byteAt_1 : List UInt8 := dkwX2_byteAt_1 ++ []
def dkwX2_byteAt_0 : List UInt8 := [28, 42, 180, 0, 26, 27, 46, 162, 0, 17, 42, 180, 0, 29, 16, 60, 27, 104, 28, 96, 51, 167, 0, 4]
abbrev dktX2_byteAt_0 : List UInt8 := dkwX2_byteAt_0 ++ dktX2_byteAt_1
theorem dksX2_byteAt_0 : cX2_byteAt.data.toList.drop 0 = dktX2_byteAt_0 := by decide +kernel
theorem dksX2_byteAt_1 : cX2_byteAt.data.toList.drop 24 = dktX2_byteAt_1 := dk_seg dksX2_byteAt_0 24 rfl rfl
theorem dX2_byteAt_0 : decode cX2_byteAt 0 = .ok (.iload_n 2, 1) := dk_28 (dk_at dksX2_byteAt_0 0 rfl rfl)
theorem dX2_byteAt_1 : decode cX2_byteAt 1 = .ok (.aload_n 0, 1) := dk_42 (dk_at dksX2_byteAt_0 1 rfl rfl)
theorem dX2_byteAt_2 : decode cX2_byteAt 2 = .ok (.getfield 26, 3) := dk_180 0 26 (dk_at dksX2_byteAt_0 2 rfl rfl)
theorem dX2_byteAt_5 : decode cX2_byteAt 5 = .ok (.iload_n 1, 1) := dk_27 (dk_at dksX2_byteAt_0 5 rfl rfl)
theorem dX2_byteAt_6 : decode cX2_byteAt 6 = .ok (.iaload, 1) := dk_46 (dk_at dksX2_byteAt_0 6 rfl rfl)
theorem dX2_byteAt_7 : decode cX2_byteAt 7 = .ok (.if_icmp .ge 17, 3) := dk_162 0 17 (dk_at dksX2_byteAt_0 7 rfl rfl)
theorem dX2_byteAt_10 : decode cX2_byteAt 10 = .ok (.aload_n 0, 1) := dk_42 (dk_at dksX2_byteAt_0 10 rfl rfl)
theorem dX2_byteAt_11 : decode cX2_byteAt 11 = .ok (.getfield 29, 3) := dk_180 0 29 (dk_at dksX2_byteAt_0 11 rfl rfl)
theorem dX2_byteAt_14 : decode cX2_byteAt 14 = .ok (.bipush 60, 2) := dk_16 60 (dk_at dksX2_byteAt_0 14 rfl rfl)
theorem dX2_byteAt_16 : decode cX2_byteAt 16 = .ok (.iload_n 1, 1) := dk_27 (dk_at dksX2_byteAt_0 16 rfl rfl)
theorem dX2_byteAt_17 : decode cX2_byteAt 17 = .ok (.imul, 1) := dk_104 (dk_at dksX2_byteAt_0 17 rfl rfl)
theorem dX2_byteAt_18 : decode cX2_byteAt 18 = .ok (.iload_n 2, 1) := dk_28 (dk_at dksX2_byteAt_0 18 rfl rfl)
theorem dX2_byteAt_19 : decode cX2_byteAt 19 = .ok (.iadd, 1) := dk_96 (dk_at dksX2_byteAt_0 19 rfl rfl)
theorem dX2_byteAt_20 : decode cX2_byteAt 20 = .ok (.baload, 1) := dk_51 (dk_at dksX2_byteAt_0 20 rfl rfl)
theorem dX2_byteAt_21 : decode cX2_byteAt 21 = .ok (.goto 4, 3) := dk_167 0 4 (dk_at dksX2_byteAt_0 21 rfl rfl)
theorem dX2_byteAt_24 : decode cX2_byteAt 24 = .ok (.iconst 0, 1) := dk_3 (dk_at dksX2_byteAt_1 0 rfl rfl)
theorem dX2_byteAt_25 : decode cX2_byteAt 25 = .ok (.ireturn, 1) := dk_172 (dk_at dksX2_byteAt_1 1 rfl rfl)
abbrev cX2_readsSpade : ByteArray := prog_11_method_30_code
def yX2_readsSpade : MethodName := ⟨RX2, "readsSpade", "(I)Z"⟩
def dkwX2_readsSpade_2 : List UInt8 := [181, 0, 124, 28, 172]
abbrev dktX2_readsSpade_2 : List UInt8 := dkwX2_readsSpade_2 ++ []
def dkwX2_readsSpade_1 : List UInt8 := [181, 0, 111, 42, 27, 4, 182, 0, 120, 61, 42, 28, 153, 0, 10, 42, 180, 0, 117, 167, 0, 4, 3]
abbrev dktX2_readsSpade_1 : List UInt8 := dkwX2_readsSpade_1 ++ dktX2_readsSpade_2
def dkwX2_readsSpade_0 : List UInt8 := [42, 27, 42, 180, 0, 111, 182, 0, 114, 16, 112, 159, 0, 5, 3, 172, 42, 89, 180, 0, 111, 4, 96]
abbrev dktX2_readsSpade_0 : List UInt8 := dkwX2_readsSpade_0 ++ dktX2_readsSpade_1
theorem dksX2_readsSpade_0 : cX2_readsSpade.data.toList.drop 0 = dktX2_readsSpade_0 := by decide +kernel
theorem dksX2_readsSpade_1 : cX2_readsSpade.data.toList.drop 23 = dktX2_readsSpade_1 := dk_seg dksX2_readsSpade_0 23 rfl rfl
theorem dksX2_readsSpade_2 : cX2_readsSpade.data.toList.drop 46 = dktX2_readsSpade_2 := dk_seg dksX2_readsSpade_1 23 rfl rfl
theorem dX2_readsSpade_0 : decode cX2_readsSpade 0 = .ok (.aload_n 0, 1) := dk_42 (dk_at dksX2_readsSpade_0 0 rfl rfl)
theorem dX2_readsSpade_1 : decode cX2_readsSpade 1 = .ok (.iload_n 1, 1) := dk_27 (dk_at dksX2_readsSpade_0 1 rfl rfl)
theorem dX2_readsSpade_2 : decode cX2_readsSpade 2 = .ok (.aload_n 0, 1) := dk_42 (dk_at dksX2_readsSpade_0 2 rfl rfl)
theorem dX2_readsSpade_3 : decode cX2_readsSpade 3 = .ok (.getfield 111, 3) := dk_180 0 111 (dk_at dksX2_readsSpade_0 3 rfl rfl)
theorem dX2_readsSpade_6 : decode cX2_readsSpade 6 = .ok (.invokevirtual 114, 3) := dk_182 0 114 (dk_at dksX2_readsSpade_0 6 rfl rfl)
theorem dX2_readsSpade_9 : decode cX2_readsSpade 9 = .ok (.bipush 112, 2) := dk_16 112 (dk_at dksX2_readsSpade_0 9 rfl rfl)
theorem dX2_readsSpade_11 : decode cX2_readsSpade 11 = .ok (.if_icmp .eq 5, 3) := dk_159 0 5 (dk_at dksX2_readsSpade_0 11 rfl rfl)
theorem dX2_readsSpade_14 : decode cX2_readsSpade 14 = .ok (.iconst 0, 1) := dk_3 (dk_at dksX2_readsSpade_0 14 rfl rfl)
theorem dX2_readsSpade_15 : decode cX2_readsSpade 15 = .ok (.ireturn, 1) := dk_172 (dk_at dksX2_readsSpade_0 15 rfl rfl)
theorem dX2_readsSpade_16 : decode cX2_readsSpade 16 = .ok (.aload_n 0, 1) := dk_42 (dk_at dksX2_readsSpade_0 16 rfl rfl)
theorem dX2_readsSpade_17 : decode cX2_readsSpade 17 = .ok (.dup, 1) := dk_89 (dk_at dksX2_readsSpade_0 17 rfl rfl)
theorem dX2_readsSpade_18 : decode cX2_readsSpade 18 = .ok (.getfield 111, 3) := dk_180 0 111 (dk_at dksX2_readsSpade_0 18 rfl rfl)
theorem dX2_readsSpade_21 : decode cX2_readsSpade 21 = .ok (.iconst 1, 1) := dk_4 (dk_at dksX2_readsSpade_0 21 rfl rfl)
theorem dX2_readsSpade_22 : decode cX2_readsSpade 22 = .ok (.iadd, 1) := dk_96 (dk_at dksX2_readsSpade_0 22 rfl rfl)
theorem dX2_readsSpade_23 : decode cX2_readsSpade 23 = .ok (.putfield 111, 3) := dk_181 0 111 (dk_at dksX2_readsSpade_1 0 rfl rfl)
theorem dX2_readsSpade_26 : decode cX2_readsSpade 26 = .ok (.aload_n 0, 1) := dk_42 (dk_at dksX2_readsSpade_1 3 rfl rfl)
theorem dX2_readsSpade_27 : decode cX2_readsSpade 27 = .ok (.iload_n 1, 1) := dk_27 (dk_at dksX2_readsSpade_1 4 rfl rfl)
theorem dX2_readsSpade_28 : decode cX2_readsSpade 28 = .ok (.iconst 1, 1) := dk_4 (dk_at dksX2_readsSpade_1 5 rfl rfl)
theorem dX2_readsSpade_29 : decode cX2_readsSpade 29 = .ok (.invokevirtual 120, 3) := dk_182 0 120 (dk_at dksX2_readsSpade_1 6 rfl rfl)
theorem dX2_readsSpade_32 : decode cX2_readsSpade 32 = .ok (.istore_n 2, 1) := dk_61 (dk_at dksX2_readsSpade_1 9 rfl rfl)
theorem dX2_readsSpade_33 : decode cX2_readsSpade 33 = .ok (.aload_n 0, 1) := dk_42 (dk_at dksX2_readsSpade_1 10 rfl rfl)
theorem dX2_readsSpade_34 : decode cX2_readsSpade 34 = .ok (.iload_n 2, 1) := dk_28 (dk_at dksX2_readsSpade_1 11 rfl rfl)
theorem dX2_readsSpade_35 : decode cX2_readsSpade 35 = .ok (.ifCond .eq 10, 3) := dk_153 0 10 (dk_at dksX2_readsSpade_1 12 rfl rfl)
theorem dX2_readsSpade_38 : decode cX2_readsSpade 38 = .ok (.aload_n 0, 1) := dk_42 (dk_at dksX2_readsSpade_1 15 rfl rfl)
theorem dX2_readsSpade_39 : decode cX2_readsSpade 39 = .ok (.getfield 117, 3) := dk_180 0 117 (dk_at dksX2_readsSpade_1 16 rfl rfl)
theorem dX2_readsSpade_42 : decode cX2_readsSpade 42 = .ok (.goto 4, 3) := dk_167 0 4 (dk_at dksX2_readsSpade_1 19 rfl rfl)
theorem dX2_readsSpade_45 : decode cX2_readsSpade 45 = .ok (.iconst 0, 1) := dk_3 (dk_at dksX2_readsSpade_1 22 rfl rfl)
theorem dX2_readsSpade_46 : decode cX2_readsSpade 46 = .ok (.putfield 124, 3) := dk_181 0 124 (dk_at dksX2_readsSpade_2 0 rfl rfl)
theorem dX2_readsSpade_49 : decode cX2_readsSpade 49 = .ok (.iload_n 2, 1) := dk_28 (dk_at dksX2_readsSpade_2 3 rfl rfl)
theorem dX2_readsSpade_50 : decode cX2_readsSpade 50 = .ok (.ireturn, 1) := dk_172 (dk_at dksX2_readsSpade_2 4 rfl rfl)
abbrev cX2_figure : ByteArray := prog_11_method_29_code
def yX2_figure : MethodName := ⟨RX2, "figure", "(II)Z"⟩
def dkwX2_figure_1 : List UInt8 := [184, 0, 83, 62, 42, 89, 180, 0, 111, 29, 153, 0, 7, 4, 167, 0, 4, 3, 96, 181, 0, 111, 29, 172]
abbrev dktX2_figure_1 : List UInt8 := dkwX2_figure_1 ++ []
def dkwX2_figure_0 : List UInt8 := [42, 42, 27, 42, 180, 0, 111, 182, 0, 114, 16, 48, 100, 181, 0, 117, 42, 180, 0, 117, 28, 16, 9]
abbrev dktX2_figure_0 : List UInt8 := dkwX2_figure_0 ++ dktX2_figure_1
theorem dksX2_figure_0 : cX2_figure.data.toList.drop 0 = dktX2_figure_0 := by decide +kernel
theorem dksX2_figure_1 : cX2_figure.data.toList.drop 23 = dktX2_figure_1 := dk_seg dksX2_figure_0 23 rfl rfl
theorem dX2_figure_0 : decode cX2_figure 0 = .ok (.aload_n 0, 1) := dk_42 (dk_at dksX2_figure_0 0 rfl rfl)
theorem dX2_figure_1 : decode cX2_figure 1 = .ok (.aload_n 0, 1) := dk_42 (dk_at dksX2_figure_0 1 rfl rfl)
theorem dX2_figure_2 : decode cX2_figure 2 = .ok (.iload_n 1, 1) := dk_27 (dk_at dksX2_figure_0 2 rfl rfl)
theorem dX2_figure_3 : decode cX2_figure 3 = .ok (.aload_n 0, 1) := dk_42 (dk_at dksX2_figure_0 3 rfl rfl)
theorem dX2_figure_4 : decode cX2_figure 4 = .ok (.getfield 111, 3) := dk_180 0 111 (dk_at dksX2_figure_0 4 rfl rfl)
theorem dX2_figure_7 : decode cX2_figure 7 = .ok (.invokevirtual 114, 3) := dk_182 0 114 (dk_at dksX2_figure_0 7 rfl rfl)
theorem dX2_figure_10 : decode cX2_figure 10 = .ok (.bipush 48, 2) := dk_16 48 (dk_at dksX2_figure_0 10 rfl rfl)
theorem dX2_figure_12 : decode cX2_figure 12 = .ok (.isub, 1) := dk_100 (dk_at dksX2_figure_0 12 rfl rfl)
theorem dX2_figure_13 : decode cX2_figure 13 = .ok (.putfield 117, 3) := dk_181 0 117 (dk_at dksX2_figure_0 13 rfl rfl)
theorem dX2_figure_16 : decode cX2_figure 16 = .ok (.aload_n 0, 1) := dk_42 (dk_at dksX2_figure_0 16 rfl rfl)
theorem dX2_figure_17 : decode cX2_figure 17 = .ok (.getfield 117, 3) := dk_180 0 117 (dk_at dksX2_figure_0 17 rfl rfl)
theorem dX2_figure_20 : decode cX2_figure 20 = .ok (.iload_n 2, 1) := dk_28 (dk_at dksX2_figure_0 20 rfl rfl)
theorem dX2_figure_21 : decode cX2_figure 21 = .ok (.bipush 9, 2) := dk_16 9 (dk_at dksX2_figure_0 21 rfl rfl)
theorem dX2_figure_23 : decode cX2_figure 23 = .ok (.invokestatic 83, 3) := dk_184 0 83 (dk_at dksX2_figure_1 0 rfl rfl)
theorem dX2_figure_26 : decode cX2_figure 26 = .ok (.istore_n 3, 1) := dk_62 (dk_at dksX2_figure_1 3 rfl rfl)
theorem dX2_figure_27 : decode cX2_figure 27 = .ok (.aload_n 0, 1) := dk_42 (dk_at dksX2_figure_1 4 rfl rfl)
theorem dX2_figure_28 : decode cX2_figure 28 = .ok (.dup, 1) := dk_89 (dk_at dksX2_figure_1 5 rfl rfl)
theorem dX2_figure_29 : decode cX2_figure 29 = .ok (.getfield 111, 3) := dk_180 0 111 (dk_at dksX2_figure_1 6 rfl rfl)
theorem dX2_figure_32 : decode cX2_figure 32 = .ok (.iload_n 3, 1) := dk_29 (dk_at dksX2_figure_1 9 rfl rfl)
theorem dX2_figure_33 : decode cX2_figure 33 = .ok (.ifCond .eq 7, 3) := dk_153 0 7 (dk_at dksX2_figure_1 10 rfl rfl)
theorem dX2_figure_36 : decode cX2_figure 36 = .ok (.iconst 1, 1) := dk_4 (dk_at dksX2_figure_1 13 rfl rfl)
theorem dX2_figure_37 : decode cX2_figure 37 = .ok (.goto 4, 3) := dk_167 0 4 (dk_at dksX2_figure_1 14 rfl rfl)
theorem dX2_figure_40 : decode cX2_figure 40 = .ok (.iconst 0, 1) := dk_3 (dk_at dksX2_figure_1 17 rfl rfl)
theorem dX2_figure_41 : decode cX2_figure 41 = .ok (.iadd, 1) := dk_96 (dk_at dksX2_figure_1 18 rfl rfl)
theorem dX2_figure_42 : decode cX2_figure 42 = .ok (.putfield 111, 3) := dk_181 0 111 (dk_at dksX2_figure_1 19 rfl rfl)
theorem dX2_figure_45 : decode cX2_figure 45 = .ok (.iload_n 3, 1) := dk_29 (dk_at dksX2_figure_1 22 rfl rfl)
theorem dX2_figure_46 : decode cX2_figure 46 = .ok (.ireturn, 1) := dk_172 (dk_at dksX2_figure_1 23 rfl rfl)
abbrev cX2_readsKey : ByteArray := prog_11_method_31_code
def yX2_readsKey : MethodName := ⟨RX2, "readsKey", "(I)Z"⟩
def dkwX2_readsKey_7 : List UInt8 := [172]
abbrev dktX2_readsKey_7 : List UInt8 := dkwX2_readsKey_7 ++ []
def dkwX2_readsKey_6 : List UInt8 := [104, 42, 180, 0, 117, 96, 79, 132, 4, 1, 167, 255, 171, 42, 89, 180, 0, 130, 4, 96, 181, 0, 130, 4]
abbrev dktX2_readsKey_6 : List UInt8 := dkwX2_readsKey_6 ++ dktX2_readsKey_7
def dkwX2_readsKey_5 : List UInt8 := [180, 0, 117, 79, 167, 0, 27, 42, 180, 0, 42, 29, 5, 96, 16, 10, 42, 180, 0, 42, 29, 5, 96, 46]
abbrev dktX2_readsKey_5 : List UInt8 := dkwX2_readsKey_5 ++ dktX2_readsKey_6
def dkwX2_readsKey_4 : List UInt8 := [4, 96, 42, 180, 0, 117, 79, 167, 0, 48, 21, 4, 6, 160, 0, 18, 42, 180, 0, 42, 29, 6, 96, 42]
abbrev dktX2_readsKey_4 : List UInt8 := dkwX2_readsKey_4 ++ dktX2_readsKey_5
def dkwX2_readsKey_3 : List UInt8 := [162, 0, 85, 42, 27, 3, 182, 0, 120, 154, 0, 5, 3, 172, 21, 4, 154, 0, 18, 42, 180, 0, 42, 29]
abbrev dktX2_readsKey_3 : List UInt8 := dkwX2_readsKey_3 ++ dktX2_readsKey_4
def dkwX2_readsKey_2 : List UInt8 := [42, 180, 0, 42, 29, 28, 79, 42, 180, 0, 42, 29, 5, 96, 3, 79, 3, 54, 4, 21, 4, 7]
abbrev dktX2_readsKey_2 : List UInt8 := dkwX2_readsKey_2 ++ dktX2_readsKey_3
def dkwX2_readsKey_1 : List UInt8 := [16, 6, 160, 0, 5, 3, 172, 42, 89, 180, 0, 111, 4, 96, 181, 0, 111, 7, 42, 180, 0, 130, 104, 62]
abbrev dktX2_readsKey_1 : List UInt8 := dkwX2_readsKey_1 ++ dktX2_readsKey_2
def dkwX2_readsKey_0 : List UInt8 := [42, 27, 42, 180, 0, 111, 182, 0, 114, 184, 0, 127, 61, 28, 16, 247, 159, 0, 12, 42, 180, 0, 130]
abbrev dktX2_readsKey_0 : List UInt8 := dkwX2_readsKey_0 ++ dktX2_readsKey_1
theorem dksX2_readsKey_0 : cX2_readsKey.data.toList.drop 0 = dktX2_readsKey_0 := by decide +kernel
theorem dksX2_readsKey_1 : cX2_readsKey.data.toList.drop 23 = dktX2_readsKey_1 := dk_seg dksX2_readsKey_0 23 rfl rfl
theorem dksX2_readsKey_2 : cX2_readsKey.data.toList.drop 47 = dktX2_readsKey_2 := dk_seg dksX2_readsKey_1 24 rfl rfl
theorem dksX2_readsKey_3 : cX2_readsKey.data.toList.drop 69 = dktX2_readsKey_3 := dk_seg dksX2_readsKey_2 22 rfl rfl
theorem dksX2_readsKey_4 : cX2_readsKey.data.toList.drop 93 = dktX2_readsKey_4 := dk_seg dksX2_readsKey_3 24 rfl rfl
theorem dksX2_readsKey_5 : cX2_readsKey.data.toList.drop 117 = dktX2_readsKey_5 := dk_seg dksX2_readsKey_4 24 rfl rfl
theorem dksX2_readsKey_6 : cX2_readsKey.data.toList.drop 141 = dktX2_readsKey_6 := dk_seg dksX2_readsKey_5 24 rfl rfl
theorem dksX2_readsKey_7 : cX2_readsKey.data.toList.drop 165 = dktX2_readsKey_7 := dk_seg dksX2_readsKey_6 24 rfl rfl
theorem dX2_readsKey_0 : decode cX2_readsKey 0 = .ok (.aload_n 0, 1) := dk_42 (dk_at dksX2_readsKey_0 0 rfl rfl)
theorem dX2_readsKey_1 : decode cX2_readsKey 1 = .ok (.iload_n 1, 1) := dk_27 (dk_at dksX2_readsKey_0 1 rfl rfl)
theorem dX2_readsKey_2 : decode cX2_readsKey 2 = .ok (.aload_n 0, 1) := dk_42 (dk_at dksX2_readsKey_0 2 rfl rfl)
theorem dX2_readsKey_3 : decode cX2_readsKey 3 = .ok (.getfield 111, 3) := dk_180 0 111 (dk_at dksX2_readsKey_0 3 rfl rfl)
theorem dX2_readsKey_6 : decode cX2_readsKey 6 = .ok (.invokevirtual 114, 3) := dk_182 0 114 (dk_at dksX2_readsKey_0 6 rfl rfl)
theorem dX2_readsKey_9 : decode cX2_readsKey 9 = .ok (.invokestatic 127, 3) := dk_184 0 127 (dk_at dksX2_readsKey_0 9 rfl rfl)
theorem dX2_readsKey_12 : decode cX2_readsKey 12 = .ok (.istore_n 2, 1) := dk_61 (dk_at dksX2_readsKey_0 12 rfl rfl)
theorem dX2_readsKey_13 : decode cX2_readsKey 13 = .ok (.iload_n 2, 1) := dk_28 (dk_at dksX2_readsKey_0 13 rfl rfl)
theorem dX2_readsKey_14 : decode cX2_readsKey 14 = .ok (.bipush (-9), 2) := dk_16 247 (dk_at dksX2_readsKey_0 14 rfl rfl)
theorem dX2_readsKey_16 : decode cX2_readsKey 16 = .ok (.if_icmp .eq 12, 3) := dk_159 0 12 (dk_at dksX2_readsKey_0 16 rfl rfl)
theorem dX2_readsKey_19 : decode cX2_readsKey 19 = .ok (.aload_n 0, 1) := dk_42 (dk_at dksX2_readsKey_0 19 rfl rfl)
theorem dX2_readsKey_20 : decode cX2_readsKey 20 = .ok (.getfield 130, 3) := dk_180 0 130 (dk_at dksX2_readsKey_0 20 rfl rfl)
theorem dX2_readsKey_23 : decode cX2_readsKey 23 = .ok (.bipush 6, 2) := dk_16 6 (dk_at dksX2_readsKey_1 0 rfl rfl)
theorem dX2_readsKey_25 : decode cX2_readsKey 25 = .ok (.if_icmp .ne 5, 3) := dk_160 0 5 (dk_at dksX2_readsKey_1 2 rfl rfl)
theorem dX2_readsKey_28 : decode cX2_readsKey 28 = .ok (.iconst 0, 1) := dk_3 (dk_at dksX2_readsKey_1 5 rfl rfl)
theorem dX2_readsKey_29 : decode cX2_readsKey 29 = .ok (.ireturn, 1) := dk_172 (dk_at dksX2_readsKey_1 6 rfl rfl)
theorem dX2_readsKey_30 : decode cX2_readsKey 30 = .ok (.aload_n 0, 1) := dk_42 (dk_at dksX2_readsKey_1 7 rfl rfl)
theorem dX2_readsKey_31 : decode cX2_readsKey 31 = .ok (.dup, 1) := dk_89 (dk_at dksX2_readsKey_1 8 rfl rfl)
theorem dX2_readsKey_32 : decode cX2_readsKey 32 = .ok (.getfield 111, 3) := dk_180 0 111 (dk_at dksX2_readsKey_1 9 rfl rfl)
theorem dX2_readsKey_35 : decode cX2_readsKey 35 = .ok (.iconst 1, 1) := dk_4 (dk_at dksX2_readsKey_1 12 rfl rfl)
theorem dX2_readsKey_36 : decode cX2_readsKey 36 = .ok (.iadd, 1) := dk_96 (dk_at dksX2_readsKey_1 13 rfl rfl)
theorem dX2_readsKey_37 : decode cX2_readsKey 37 = .ok (.putfield 111, 3) := dk_181 0 111 (dk_at dksX2_readsKey_1 14 rfl rfl)
theorem dX2_readsKey_40 : decode cX2_readsKey 40 = .ok (.iconst 4, 1) := dk_7 (dk_at dksX2_readsKey_1 17 rfl rfl)
theorem dX2_readsKey_41 : decode cX2_readsKey 41 = .ok (.aload_n 0, 1) := dk_42 (dk_at dksX2_readsKey_1 18 rfl rfl)
theorem dX2_readsKey_42 : decode cX2_readsKey 42 = .ok (.getfield 130, 3) := dk_180 0 130 (dk_at dksX2_readsKey_1 19 rfl rfl)
theorem dX2_readsKey_45 : decode cX2_readsKey 45 = .ok (.imul, 1) := dk_104 (dk_at dksX2_readsKey_1 22 rfl rfl)
theorem dX2_readsKey_46 : decode cX2_readsKey 46 = .ok (.istore_n 3, 1) := dk_62 (dk_at dksX2_readsKey_1 23 rfl rfl)
theorem dX2_readsKey_47 : decode cX2_readsKey 47 = .ok (.aload_n 0, 1) := dk_42 (dk_at dksX2_readsKey_2 0 rfl rfl)
theorem dX2_readsKey_48 : decode cX2_readsKey 48 = .ok (.getfield 42, 3) := dk_180 0 42 (dk_at dksX2_readsKey_2 1 rfl rfl)
theorem dX2_readsKey_51 : decode cX2_readsKey 51 = .ok (.iload_n 3, 1) := dk_29 (dk_at dksX2_readsKey_2 4 rfl rfl)
theorem dX2_readsKey_52 : decode cX2_readsKey 52 = .ok (.iload_n 2, 1) := dk_28 (dk_at dksX2_readsKey_2 5 rfl rfl)
theorem dX2_readsKey_53 : decode cX2_readsKey 53 = .ok (.iastore, 1) := dk_79 (dk_at dksX2_readsKey_2 6 rfl rfl)
theorem dX2_readsKey_54 : decode cX2_readsKey 54 = .ok (.aload_n 0, 1) := dk_42 (dk_at dksX2_readsKey_2 7 rfl rfl)
theorem dX2_readsKey_55 : decode cX2_readsKey 55 = .ok (.getfield 42, 3) := dk_180 0 42 (dk_at dksX2_readsKey_2 8 rfl rfl)
theorem dX2_readsKey_58 : decode cX2_readsKey 58 = .ok (.iload_n 3, 1) := dk_29 (dk_at dksX2_readsKey_2 11 rfl rfl)
theorem dX2_readsKey_59 : decode cX2_readsKey 59 = .ok (.iconst 2, 1) := dk_5 (dk_at dksX2_readsKey_2 12 rfl rfl)
theorem dX2_readsKey_60 : decode cX2_readsKey 60 = .ok (.iadd, 1) := dk_96 (dk_at dksX2_readsKey_2 13 rfl rfl)
theorem dX2_readsKey_61 : decode cX2_readsKey 61 = .ok (.iconst 0, 1) := dk_3 (dk_at dksX2_readsKey_2 14 rfl rfl)
theorem dX2_readsKey_62 : decode cX2_readsKey 62 = .ok (.iastore, 1) := dk_79 (dk_at dksX2_readsKey_2 15 rfl rfl)
theorem dX2_readsKey_63 : decode cX2_readsKey 63 = .ok (.iconst 0, 1) := dk_3 (dk_at dksX2_readsKey_2 16 rfl rfl)
theorem dX2_readsKey_64 : decode cX2_readsKey 64 = .ok (.istore 4, 2) := dk_54 4 (dk_at dksX2_readsKey_2 17 rfl rfl)
theorem dX2_readsKey_66 : decode cX2_readsKey 66 = .ok (.iload 4, 2) := dk_21 4 (dk_at dksX2_readsKey_2 19 rfl rfl)
theorem dX2_readsKey_68 : decode cX2_readsKey 68 = .ok (.iconst 4, 1) := dk_7 (dk_at dksX2_readsKey_2 21 rfl rfl)
theorem dX2_readsKey_69 : decode cX2_readsKey 69 = .ok (.if_icmp .ge 85, 3) := dk_162 0 85 (dk_at dksX2_readsKey_3 0 rfl rfl)
theorem dX2_readsKey_72 : decode cX2_readsKey 72 = .ok (.aload_n 0, 1) := dk_42 (dk_at dksX2_readsKey_3 3 rfl rfl)
theorem dX2_readsKey_73 : decode cX2_readsKey 73 = .ok (.iload_n 1, 1) := dk_27 (dk_at dksX2_readsKey_3 4 rfl rfl)
theorem dX2_readsKey_74 : decode cX2_readsKey 74 = .ok (.iconst 0, 1) := dk_3 (dk_at dksX2_readsKey_3 5 rfl rfl)
theorem dX2_readsKey_75 : decode cX2_readsKey 75 = .ok (.invokevirtual 120, 3) := dk_182 0 120 (dk_at dksX2_readsKey_3 6 rfl rfl)
theorem dX2_readsKey_78 : decode cX2_readsKey 78 = .ok (.ifCond .ne 5, 3) := dk_154 0 5 (dk_at dksX2_readsKey_3 9 rfl rfl)
theorem dX2_readsKey_81 : decode cX2_readsKey 81 = .ok (.iconst 0, 1) := dk_3 (dk_at dksX2_readsKey_3 12 rfl rfl)
theorem dX2_readsKey_82 : decode cX2_readsKey 82 = .ok (.ireturn, 1) := dk_172 (dk_at dksX2_readsKey_3 13 rfl rfl)
theorem dX2_readsKey_83 : decode cX2_readsKey 83 = .ok (.iload 4, 2) := dk_21 4 (dk_at dksX2_readsKey_3 14 rfl rfl)
theorem dX2_readsKey_85 : decode cX2_readsKey 85 = .ok (.ifCond .ne 18, 3) := dk_154 0 18 (dk_at dksX2_readsKey_3 16 rfl rfl)
theorem dX2_readsKey_88 : decode cX2_readsKey 88 = .ok (.aload_n 0, 1) := dk_42 (dk_at dksX2_readsKey_3 19 rfl rfl)
theorem dX2_readsKey_89 : decode cX2_readsKey 89 = .ok (.getfield 42, 3) := dk_180 0 42 (dk_at dksX2_readsKey_3 20 rfl rfl)
theorem dX2_readsKey_92 : decode cX2_readsKey 92 = .ok (.iload_n 3, 1) := dk_29 (dk_at dksX2_readsKey_3 23 rfl rfl)
theorem dX2_readsKey_93 : decode cX2_readsKey 93 = .ok (.iconst 1, 1) := dk_4 (dk_at dksX2_readsKey_4 0 rfl rfl)
theorem dX2_readsKey_94 : decode cX2_readsKey 94 = .ok (.iadd, 1) := dk_96 (dk_at dksX2_readsKey_4 1 rfl rfl)
theorem dX2_readsKey_95 : decode cX2_readsKey 95 = .ok (.aload_n 0, 1) := dk_42 (dk_at dksX2_readsKey_4 2 rfl rfl)
theorem dX2_readsKey_96 : decode cX2_readsKey 96 = .ok (.getfield 117, 3) := dk_180 0 117 (dk_at dksX2_readsKey_4 3 rfl rfl)
theorem dX2_readsKey_99 : decode cX2_readsKey 99 = .ok (.iastore, 1) := dk_79 (dk_at dksX2_readsKey_4 6 rfl rfl)
theorem dX2_readsKey_100 : decode cX2_readsKey 100 = .ok (.goto 48, 3) := dk_167 0 48 (dk_at dksX2_readsKey_4 7 rfl rfl)
theorem dX2_readsKey_103 : decode cX2_readsKey 103 = .ok (.iload 4, 2) := dk_21 4 (dk_at dksX2_readsKey_4 10 rfl rfl)
theorem dX2_readsKey_105 : decode cX2_readsKey 105 = .ok (.iconst 3, 1) := dk_6 (dk_at dksX2_readsKey_4 12 rfl rfl)
theorem dX2_readsKey_106 : decode cX2_readsKey 106 = .ok (.if_icmp .ne 18, 3) := dk_160 0 18 (dk_at dksX2_readsKey_4 13 rfl rfl)
theorem dX2_readsKey_109 : decode cX2_readsKey 109 = .ok (.aload_n 0, 1) := dk_42 (dk_at dksX2_readsKey_4 16 rfl rfl)
theorem dX2_readsKey_110 : decode cX2_readsKey 110 = .ok (.getfield 42, 3) := dk_180 0 42 (dk_at dksX2_readsKey_4 17 rfl rfl)
theorem dX2_readsKey_113 : decode cX2_readsKey 113 = .ok (.iload_n 3, 1) := dk_29 (dk_at dksX2_readsKey_4 20 rfl rfl)
theorem dX2_readsKey_114 : decode cX2_readsKey 114 = .ok (.iconst 3, 1) := dk_6 (dk_at dksX2_readsKey_4 21 rfl rfl)
theorem dX2_readsKey_115 : decode cX2_readsKey 115 = .ok (.iadd, 1) := dk_96 (dk_at dksX2_readsKey_4 22 rfl rfl)
theorem dX2_readsKey_116 : decode cX2_readsKey 116 = .ok (.aload_n 0, 1) := dk_42 (dk_at dksX2_readsKey_4 23 rfl rfl)
theorem dX2_readsKey_117 : decode cX2_readsKey 117 = .ok (.getfield 117, 3) := dk_180 0 117 (dk_at dksX2_readsKey_5 0 rfl rfl)
theorem dX2_readsKey_120 : decode cX2_readsKey 120 = .ok (.iastore, 1) := dk_79 (dk_at dksX2_readsKey_5 3 rfl rfl)
theorem dX2_readsKey_121 : decode cX2_readsKey 121 = .ok (.goto 27, 3) := dk_167 0 27 (dk_at dksX2_readsKey_5 4 rfl rfl)
theorem dX2_readsKey_124 : decode cX2_readsKey 124 = .ok (.aload_n 0, 1) := dk_42 (dk_at dksX2_readsKey_5 7 rfl rfl)
theorem dX2_readsKey_125 : decode cX2_readsKey 125 = .ok (.getfield 42, 3) := dk_180 0 42 (dk_at dksX2_readsKey_5 8 rfl rfl)
theorem dX2_readsKey_128 : decode cX2_readsKey 128 = .ok (.iload_n 3, 1) := dk_29 (dk_at dksX2_readsKey_5 11 rfl rfl)
theorem dX2_readsKey_129 : decode cX2_readsKey 129 = .ok (.iconst 2, 1) := dk_5 (dk_at dksX2_readsKey_5 12 rfl rfl)
theorem dX2_readsKey_130 : decode cX2_readsKey 130 = .ok (.iadd, 1) := dk_96 (dk_at dksX2_readsKey_5 13 rfl rfl)
theorem dX2_readsKey_131 : decode cX2_readsKey 131 = .ok (.bipush 10, 2) := dk_16 10 (dk_at dksX2_readsKey_5 14 rfl rfl)
theorem dX2_readsKey_133 : decode cX2_readsKey 133 = .ok (.aload_n 0, 1) := dk_42 (dk_at dksX2_readsKey_5 16 rfl rfl)
theorem dX2_readsKey_134 : decode cX2_readsKey 134 = .ok (.getfield 42, 3) := dk_180 0 42 (dk_at dksX2_readsKey_5 17 rfl rfl)
theorem dX2_readsKey_137 : decode cX2_readsKey 137 = .ok (.iload_n 3, 1) := dk_29 (dk_at dksX2_readsKey_5 20 rfl rfl)
theorem dX2_readsKey_138 : decode cX2_readsKey 138 = .ok (.iconst 2, 1) := dk_5 (dk_at dksX2_readsKey_5 21 rfl rfl)
theorem dX2_readsKey_139 : decode cX2_readsKey 139 = .ok (.iadd, 1) := dk_96 (dk_at dksX2_readsKey_5 22 rfl rfl)
theorem dX2_readsKey_140 : decode cX2_readsKey 140 = .ok (.iaload, 1) := dk_46 (dk_at dksX2_readsKey_5 23 rfl rfl)
theorem dX2_readsKey_141 : decode cX2_readsKey 141 = .ok (.imul, 1) := dk_104 (dk_at dksX2_readsKey_6 0 rfl rfl)
theorem dX2_readsKey_142 : decode cX2_readsKey 142 = .ok (.aload_n 0, 1) := dk_42 (dk_at dksX2_readsKey_6 1 rfl rfl)
theorem dX2_readsKey_143 : decode cX2_readsKey 143 = .ok (.getfield 117, 3) := dk_180 0 117 (dk_at dksX2_readsKey_6 2 rfl rfl)
theorem dX2_readsKey_146 : decode cX2_readsKey 146 = .ok (.iadd, 1) := dk_96 (dk_at dksX2_readsKey_6 5 rfl rfl)
theorem dX2_readsKey_147 : decode cX2_readsKey 147 = .ok (.iastore, 1) := dk_79 (dk_at dksX2_readsKey_6 6 rfl rfl)
theorem dX2_readsKey_148 : decode cX2_readsKey 148 = .ok (.iinc 4 1, 3) := dk_132 4 1 (dk_at dksX2_readsKey_6 7 rfl rfl)
theorem dX2_readsKey_151 : decode cX2_readsKey 151 = .ok (.goto (-85), 3) := dk_167 255 171 (dk_at dksX2_readsKey_6 10 rfl rfl)
theorem dX2_readsKey_154 : decode cX2_readsKey 154 = .ok (.aload_n 0, 1) := dk_42 (dk_at dksX2_readsKey_6 13 rfl rfl)
theorem dX2_readsKey_155 : decode cX2_readsKey 155 = .ok (.dup, 1) := dk_89 (dk_at dksX2_readsKey_6 14 rfl rfl)
theorem dX2_readsKey_156 : decode cX2_readsKey 156 = .ok (.getfield 130, 3) := dk_180 0 130 (dk_at dksX2_readsKey_6 15 rfl rfl)
theorem dX2_readsKey_159 : decode cX2_readsKey 159 = .ok (.iconst 1, 1) := dk_4 (dk_at dksX2_readsKey_6 18 rfl rfl)
theorem dX2_readsKey_160 : decode cX2_readsKey 160 = .ok (.iadd, 1) := dk_96 (dk_at dksX2_readsKey_6 19 rfl rfl)
theorem dX2_readsKey_161 : decode cX2_readsKey 161 = .ok (.putfield 130, 3) := dk_181 0 130 (dk_at dksX2_readsKey_6 20 rfl rfl)
theorem dX2_readsKey_164 : decode cX2_readsKey 164 = .ok (.iconst 1, 1) := dk_4 (dk_at dksX2_readsKey_6 23 rfl rfl)
theorem dX2_readsKey_165 : decode cX2_readsKey 165 = .ok (.ireturn, 1) := dk_172 (dk_at dksX2_readsKey_7 0 rfl rfl)
abbrev cX2_kindOf : ByteArray := prog_11_method_28_code
def yX2_kindOf : MethodName := ⟨RX2, "kindOf", "(I)I"⟩
def dkwX2_kindOf_2 : List UInt8 := [3, 172, 4, 172, 5, 172, 6, 172, 7, 172, 8, 172, 16, 247, 172]
abbrev dktX2_kindOf_2 : List UInt8 := dkwX2_kindOf_2 ++ []
def dkwX2_kindOf_1 : List UInt8 := [170, 0, 0, 0, 0, 0, 99, 0, 0, 0, 98, 0, 0, 0, 115, 0, 0, 0, 89, 0, 0, 0, 93, 0, 0, 0, 95, 0, 0, 0, 99, 0, 0, 0, 99, 0, 0, 0, 99, 0, 0, 0, 99, 0, 0, 0, 99, 0, 0, 0, 99, 0, 0, 0, 87, 0, 0, 0, 99, 0, 0, 0, 99, 0, 0, 0, 99, 0, 0, 0, 99, 0, 0, 0, 99, 0, 0, 0, 99, 0, 0, 0, 97, 0, 0, 0, 91]
abbrev dktX2_kindOf_1 : List UInt8 := dkwX2_kindOf_1 ++ dktX2_kindOf_2
def dkwX2_kindOf_0 : List UInt8 := [26]
abbrev dktX2_kindOf_0 : List UInt8 := dkwX2_kindOf_0 ++ dktX2_kindOf_1
theorem dksX2_kindOf_0 : cX2_kindOf.data.toList.drop 0 = dktX2_kindOf_0 := by decide +kernel
theorem dksX2_kindOf_1 : cX2_kindOf.data.toList.drop 1 = dktX2_kindOf_1 := dk_seg dksX2_kindOf_0 1 rfl rfl
theorem dksX2_kindOf_2 : cX2_kindOf.data.toList.drop 88 = dktX2_kindOf_2 := dk_seg dksX2_kindOf_1 87 rfl rfl
theorem dX2_kindOf_0 : decode cX2_kindOf 0 = .ok (.iload_n 0, 1) := dk_26 (dk_at dksX2_kindOf_0 0 rfl rfl)
theorem dX2_kindOf_1 : decode cX2_kindOf 1 = .ok (.tableswitch 99 98 115 #[89, 93, 95, 99, 99, 99, 99, 99, 99, 87, 99, 99, 99, 99, 99, 99, 97, 91], 87) := by decide +kernel
theorem dX2_kindOf_88 : decode cX2_kindOf 88 = .ok (.iconst 0, 1) := dk_3 (dk_at dksX2_kindOf_2 0 rfl rfl)
theorem dX2_kindOf_89 : decode cX2_kindOf 89 = .ok (.ireturn, 1) := dk_172 (dk_at dksX2_kindOf_2 1 rfl rfl)
theorem dX2_kindOf_90 : decode cX2_kindOf 90 = .ok (.iconst 1, 1) := dk_4 (dk_at dksX2_kindOf_2 2 rfl rfl)
theorem dX2_kindOf_91 : decode cX2_kindOf 91 = .ok (.ireturn, 1) := dk_172 (dk_at dksX2_kindOf_2 3 rfl rfl)
theorem dX2_kindOf_92 : decode cX2_kindOf 92 = .ok (.iconst 2, 1) := dk_5 (dk_at dksX2_kindOf_2 4 rfl rfl)
theorem dX2_kindOf_93 : decode cX2_kindOf 93 = .ok (.ireturn, 1) := dk_172 (dk_at dksX2_kindOf_2 5 rfl rfl)
theorem dX2_kindOf_94 : decode cX2_kindOf 94 = .ok (.iconst 3, 1) := dk_6 (dk_at dksX2_kindOf_2 6 rfl rfl)
theorem dX2_kindOf_95 : decode cX2_kindOf 95 = .ok (.ireturn, 1) := dk_172 (dk_at dksX2_kindOf_2 7 rfl rfl)
theorem dX2_kindOf_96 : decode cX2_kindOf 96 = .ok (.iconst 4, 1) := dk_7 (dk_at dksX2_kindOf_2 8 rfl rfl)
theorem dX2_kindOf_97 : decode cX2_kindOf 97 = .ok (.ireturn, 1) := dk_172 (dk_at dksX2_kindOf_2 9 rfl rfl)
theorem dX2_kindOf_98 : decode cX2_kindOf 98 = .ok (.iconst 5, 1) := dk_8 (dk_at dksX2_kindOf_2 10 rfl rfl)
theorem dX2_kindOf_99 : decode cX2_kindOf 99 = .ok (.ireturn, 1) := dk_172 (dk_at dksX2_kindOf_2 11 rfl rfl)
theorem dX2_kindOf_100 : decode cX2_kindOf 100 = .ok (.bipush (-9), 2) := dk_16 247 (dk_at dksX2_kindOf_2 12 rfl rfl)
theorem dX2_kindOf_102 : decode cX2_kindOf 102 = .ok (.ireturn, 1) := dk_172 (dk_at dksX2_kindOf_2 14 rfl rfl)
abbrev cX2_piano : ByteArray := prog_11_method_34_code
def yX2_piano : MethodName := ⟨RX2, "piano", "(I)I"⟩
def dkwX2_piano_7 : List UInt8 := [180, 0, 51, 28, 3, 84, 132, 2, 1, 167, 255, 241, 42, 180, 0, 142, 172]
abbrev dktX2_piano_7 : List UInt8 := dkwX2_piano_7 ++ []
def dkwX2_piano_6 : List UInt8 := [182, 0, 145, 132, 2, 1, 167, 255, 183, 42, 3, 181, 0, 149, 3, 61, 28, 6, 162, 0, 16, 42]
abbrev dktX2_piano_6 : List UInt8 := dkwX2_piano_6 ++ dktX2_piano_7
def dkwX2_piano_5 : List UInt8 := [42, 180, 0, 42, 7, 28, 104, 6, 96, 46, 79, 42, 3, 28, 42, 180, 0, 42, 7, 28, 104, 5, 96, 46]
abbrev dktX2_piano_5 : List UInt8 := dkwX2_piano_5 ++ dktX2_piano_6
def dkwX2_piano_4 : List UInt8 := [104, 46, 79, 42, 180, 0, 36, 28, 42, 180, 0, 42, 7, 28, 104, 4, 96, 46, 79, 42, 180, 0, 39, 28]
abbrev dktX2_piano_4 : List UInt8 := dkwX2_piano_4 ++ dktX2_piano_5
def dkwX2_piano_3 : List UInt8 := [167, 255, 240, 3, 61, 28, 42, 180, 0, 142, 162, 0, 71, 42, 180, 0, 33, 28, 42, 180, 0, 42, 7, 28]
abbrev dktX2_piano_3 : List UInt8 := dkwX2_piano_3 ++ dktX2_piano_4
def dkwX2_piano_2 : List UInt8 := [180, 0, 130, 181, 0, 142, 3, 61, 28, 16, 9, 162, 0, 16, 42, 3, 28, 3, 182, 0, 145, 132, 2, 1]
abbrev dktX2_piano_2 : List UInt8 := dkwX2_piano_2 ++ dktX2_piano_3
def dkwX2_piano_1 : List UInt8 := [42, 27, 182, 0, 139, 16, 247, 159, 0, 6, 16, 252, 172, 42, 42, 180, 0, 124, 181, 0, 76, 42, 42]
abbrev dktX2_piano_1 : List UInt8 := dkwX2_piano_1 ++ dktX2_piano_2
def dkwX2_piano_0 : List UInt8 := [27, 184, 0, 108, 154, 0, 5, 2, 172, 42, 180, 0, 26, 27, 46, 156, 0, 9, 42, 4, 182, 0, 97, 172]
abbrev dktX2_piano_0 : List UInt8 := dkwX2_piano_0 ++ dktX2_piano_1
theorem dksX2_piano_0 : cX2_piano.data.toList.drop 0 = dktX2_piano_0 := by decide +kernel
theorem dksX2_piano_1 : cX2_piano.data.toList.drop 24 = dktX2_piano_1 := dk_seg dksX2_piano_0 24 rfl rfl
theorem dksX2_piano_2 : cX2_piano.data.toList.drop 47 = dktX2_piano_2 := dk_seg dksX2_piano_1 23 rfl rfl
theorem dksX2_piano_3 : cX2_piano.data.toList.drop 71 = dktX2_piano_3 := dk_seg dksX2_piano_2 24 rfl rfl
theorem dksX2_piano_4 : cX2_piano.data.toList.drop 95 = dktX2_piano_4 := dk_seg dksX2_piano_3 24 rfl rfl
theorem dksX2_piano_5 : cX2_piano.data.toList.drop 119 = dktX2_piano_5 := dk_seg dksX2_piano_4 24 rfl rfl
theorem dksX2_piano_6 : cX2_piano.data.toList.drop 143 = dktX2_piano_6 := dk_seg dksX2_piano_5 24 rfl rfl
theorem dksX2_piano_7 : cX2_piano.data.toList.drop 165 = dktX2_piano_7 := dk_seg dksX2_piano_6 22 rfl rfl
theorem dX2_piano_0 : decode cX2_piano 0 = .ok (.iload_n 1, 1) := dk_27 (dk_at dksX2_piano_0 0 rfl rfl)
theorem dX2_piano_1 : decode cX2_piano 1 = .ok (.invokestatic 108, 3) := dk_184 0 108 (dk_at dksX2_piano_0 1 rfl rfl)
theorem dX2_piano_4 : decode cX2_piano 4 = .ok (.ifCond .ne 5, 3) := dk_154 0 5 (dk_at dksX2_piano_0 4 rfl rfl)
theorem dX2_piano_7 : decode cX2_piano 7 = .ok (.iconst (-1), 1) := dk_2 (dk_at dksX2_piano_0 7 rfl rfl)
theorem dX2_piano_8 : decode cX2_piano 8 = .ok (.ireturn, 1) := dk_172 (dk_at dksX2_piano_0 8 rfl rfl)
theorem dX2_piano_9 : decode cX2_piano 9 = .ok (.aload_n 0, 1) := dk_42 (dk_at dksX2_piano_0 9 rfl rfl)
theorem dX2_piano_10 : decode cX2_piano 10 = .ok (.getfield 26, 3) := dk_180 0 26 (dk_at dksX2_piano_0 10 rfl rfl)
theorem dX2_piano_13 : decode cX2_piano 13 = .ok (.iload_n 1, 1) := dk_27 (dk_at dksX2_piano_0 13 rfl rfl)
theorem dX2_piano_14 : decode cX2_piano 14 = .ok (.iaload, 1) := dk_46 (dk_at dksX2_piano_0 14 rfl rfl)
theorem dX2_piano_15 : decode cX2_piano 15 = .ok (.ifCond .ge 9, 3) := dk_156 0 9 (dk_at dksX2_piano_0 15 rfl rfl)
theorem dX2_piano_18 : decode cX2_piano 18 = .ok (.aload_n 0, 1) := dk_42 (dk_at dksX2_piano_0 18 rfl rfl)
theorem dX2_piano_19 : decode cX2_piano 19 = .ok (.iconst 1, 1) := dk_4 (dk_at dksX2_piano_0 19 rfl rfl)
theorem dX2_piano_20 : decode cX2_piano 20 = .ok (.invokevirtual 97, 3) := dk_182 0 97 (dk_at dksX2_piano_0 20 rfl rfl)
theorem dX2_piano_23 : decode cX2_piano 23 = .ok (.ireturn, 1) := dk_172 (dk_at dksX2_piano_0 23 rfl rfl)
theorem dX2_piano_24 : decode cX2_piano 24 = .ok (.aload_n 0, 1) := dk_42 (dk_at dksX2_piano_1 0 rfl rfl)
theorem dX2_piano_25 : decode cX2_piano 25 = .ok (.iload_n 1, 1) := dk_27 (dk_at dksX2_piano_1 1 rfl rfl)
theorem dX2_piano_26 : decode cX2_piano 26 = .ok (.invokevirtual 139, 3) := dk_182 0 139 (dk_at dksX2_piano_1 2 rfl rfl)
theorem dX2_piano_29 : decode cX2_piano 29 = .ok (.bipush (-9), 2) := dk_16 247 (dk_at dksX2_piano_1 5 rfl rfl)
theorem dX2_piano_31 : decode cX2_piano 31 = .ok (.if_icmp .eq 6, 3) := dk_159 0 6 (dk_at dksX2_piano_1 7 rfl rfl)
theorem dX2_piano_34 : decode cX2_piano 34 = .ok (.bipush (-4), 2) := dk_16 252 (dk_at dksX2_piano_1 10 rfl rfl)
theorem dX2_piano_36 : decode cX2_piano 36 = .ok (.ireturn, 1) := dk_172 (dk_at dksX2_piano_1 12 rfl rfl)
theorem dX2_piano_37 : decode cX2_piano 37 = .ok (.aload_n 0, 1) := dk_42 (dk_at dksX2_piano_1 13 rfl rfl)
theorem dX2_piano_38 : decode cX2_piano 38 = .ok (.aload_n 0, 1) := dk_42 (dk_at dksX2_piano_1 14 rfl rfl)
theorem dX2_piano_39 : decode cX2_piano 39 = .ok (.getfield 124, 3) := dk_180 0 124 (dk_at dksX2_piano_1 15 rfl rfl)
theorem dX2_piano_42 : decode cX2_piano 42 = .ok (.putfield 76, 3) := dk_181 0 76 (dk_at dksX2_piano_1 18 rfl rfl)
theorem dX2_piano_45 : decode cX2_piano 45 = .ok (.aload_n 0, 1) := dk_42 (dk_at dksX2_piano_1 21 rfl rfl)
theorem dX2_piano_46 : decode cX2_piano 46 = .ok (.aload_n 0, 1) := dk_42 (dk_at dksX2_piano_1 22 rfl rfl)
theorem dX2_piano_47 : decode cX2_piano 47 = .ok (.getfield 130, 3) := dk_180 0 130 (dk_at dksX2_piano_2 0 rfl rfl)
theorem dX2_piano_50 : decode cX2_piano 50 = .ok (.putfield 142, 3) := dk_181 0 142 (dk_at dksX2_piano_2 3 rfl rfl)
theorem dX2_piano_53 : decode cX2_piano 53 = .ok (.iconst 0, 1) := dk_3 (dk_at dksX2_piano_2 6 rfl rfl)
theorem dX2_piano_54 : decode cX2_piano 54 = .ok (.istore_n 2, 1) := dk_61 (dk_at dksX2_piano_2 7 rfl rfl)
theorem dX2_piano_55 : decode cX2_piano 55 = .ok (.iload_n 2, 1) := dk_28 (dk_at dksX2_piano_2 8 rfl rfl)
theorem dX2_piano_56 : decode cX2_piano 56 = .ok (.bipush 9, 2) := dk_16 9 (dk_at dksX2_piano_2 9 rfl rfl)
theorem dX2_piano_58 : decode cX2_piano 58 = .ok (.if_icmp .ge 16, 3) := dk_162 0 16 (dk_at dksX2_piano_2 11 rfl rfl)
theorem dX2_piano_61 : decode cX2_piano 61 = .ok (.aload_n 0, 1) := dk_42 (dk_at dksX2_piano_2 14 rfl rfl)
theorem dX2_piano_62 : decode cX2_piano 62 = .ok (.iconst 0, 1) := dk_3 (dk_at dksX2_piano_2 15 rfl rfl)
theorem dX2_piano_63 : decode cX2_piano 63 = .ok (.iload_n 2, 1) := dk_28 (dk_at dksX2_piano_2 16 rfl rfl)
theorem dX2_piano_64 : decode cX2_piano 64 = .ok (.iconst 0, 1) := dk_3 (dk_at dksX2_piano_2 17 rfl rfl)
theorem dX2_piano_65 : decode cX2_piano 65 = .ok (.invokevirtual 145, 3) := dk_182 0 145 (dk_at dksX2_piano_2 18 rfl rfl)
theorem dX2_piano_68 : decode cX2_piano 68 = .ok (.iinc 2 1, 3) := dk_132 2 1 (dk_at dksX2_piano_2 21 rfl rfl)
theorem dX2_piano_71 : decode cX2_piano 71 = .ok (.goto (-16), 3) := dk_167 255 240 (dk_at dksX2_piano_3 0 rfl rfl)
theorem dX2_piano_74 : decode cX2_piano 74 = .ok (.iconst 0, 1) := dk_3 (dk_at dksX2_piano_3 3 rfl rfl)
theorem dX2_piano_75 : decode cX2_piano 75 = .ok (.istore_n 2, 1) := dk_61 (dk_at dksX2_piano_3 4 rfl rfl)
theorem dX2_piano_76 : decode cX2_piano 76 = .ok (.iload_n 2, 1) := dk_28 (dk_at dksX2_piano_3 5 rfl rfl)
theorem dX2_piano_77 : decode cX2_piano 77 = .ok (.aload_n 0, 1) := dk_42 (dk_at dksX2_piano_3 6 rfl rfl)
theorem dX2_piano_78 : decode cX2_piano 78 = .ok (.getfield 142, 3) := dk_180 0 142 (dk_at dksX2_piano_3 7 rfl rfl)
theorem dX2_piano_81 : decode cX2_piano 81 = .ok (.if_icmp .ge 71, 3) := dk_162 0 71 (dk_at dksX2_piano_3 10 rfl rfl)
theorem dX2_piano_84 : decode cX2_piano 84 = .ok (.aload_n 0, 1) := dk_42 (dk_at dksX2_piano_3 13 rfl rfl)
theorem dX2_piano_85 : decode cX2_piano 85 = .ok (.getfield 33, 3) := dk_180 0 33 (dk_at dksX2_piano_3 14 rfl rfl)
theorem dX2_piano_88 : decode cX2_piano 88 = .ok (.iload_n 2, 1) := dk_28 (dk_at dksX2_piano_3 17 rfl rfl)
theorem dX2_piano_89 : decode cX2_piano 89 = .ok (.aload_n 0, 1) := dk_42 (dk_at dksX2_piano_3 18 rfl rfl)
theorem dX2_piano_90 : decode cX2_piano 90 = .ok (.getfield 42, 3) := dk_180 0 42 (dk_at dksX2_piano_3 19 rfl rfl)
theorem dX2_piano_93 : decode cX2_piano 93 = .ok (.iconst 4, 1) := dk_7 (dk_at dksX2_piano_3 22 rfl rfl)
theorem dX2_piano_94 : decode cX2_piano 94 = .ok (.iload_n 2, 1) := dk_28 (dk_at dksX2_piano_3 23 rfl rfl)
theorem dX2_piano_95 : decode cX2_piano 95 = .ok (.imul, 1) := dk_104 (dk_at dksX2_piano_4 0 rfl rfl)
theorem dX2_piano_96 : decode cX2_piano 96 = .ok (.iaload, 1) := dk_46 (dk_at dksX2_piano_4 1 rfl rfl)
theorem dX2_piano_97 : decode cX2_piano 97 = .ok (.iastore, 1) := dk_79 (dk_at dksX2_piano_4 2 rfl rfl)
theorem dX2_piano_98 : decode cX2_piano 98 = .ok (.aload_n 0, 1) := dk_42 (dk_at dksX2_piano_4 3 rfl rfl)
theorem dX2_piano_99 : decode cX2_piano 99 = .ok (.getfield 36, 3) := dk_180 0 36 (dk_at dksX2_piano_4 4 rfl rfl)
theorem dX2_piano_102 : decode cX2_piano 102 = .ok (.iload_n 2, 1) := dk_28 (dk_at dksX2_piano_4 7 rfl rfl)
theorem dX2_piano_103 : decode cX2_piano 103 = .ok (.aload_n 0, 1) := dk_42 (dk_at dksX2_piano_4 8 rfl rfl)
theorem dX2_piano_104 : decode cX2_piano 104 = .ok (.getfield 42, 3) := dk_180 0 42 (dk_at dksX2_piano_4 9 rfl rfl)
theorem dX2_piano_107 : decode cX2_piano 107 = .ok (.iconst 4, 1) := dk_7 (dk_at dksX2_piano_4 12 rfl rfl)
theorem dX2_piano_108 : decode cX2_piano 108 = .ok (.iload_n 2, 1) := dk_28 (dk_at dksX2_piano_4 13 rfl rfl)
theorem dX2_piano_109 : decode cX2_piano 109 = .ok (.imul, 1) := dk_104 (dk_at dksX2_piano_4 14 rfl rfl)
theorem dX2_piano_110 : decode cX2_piano 110 = .ok (.iconst 1, 1) := dk_4 (dk_at dksX2_piano_4 15 rfl rfl)
theorem dX2_piano_111 : decode cX2_piano 111 = .ok (.iadd, 1) := dk_96 (dk_at dksX2_piano_4 16 rfl rfl)
theorem dX2_piano_112 : decode cX2_piano 112 = .ok (.iaload, 1) := dk_46 (dk_at dksX2_piano_4 17 rfl rfl)
theorem dX2_piano_113 : decode cX2_piano 113 = .ok (.iastore, 1) := dk_79 (dk_at dksX2_piano_4 18 rfl rfl)
theorem dX2_piano_114 : decode cX2_piano 114 = .ok (.aload_n 0, 1) := dk_42 (dk_at dksX2_piano_4 19 rfl rfl)
theorem dX2_piano_115 : decode cX2_piano 115 = .ok (.getfield 39, 3) := dk_180 0 39 (dk_at dksX2_piano_4 20 rfl rfl)
theorem dX2_piano_118 : decode cX2_piano 118 = .ok (.iload_n 2, 1) := dk_28 (dk_at dksX2_piano_4 23 rfl rfl)
theorem dX2_piano_119 : decode cX2_piano 119 = .ok (.aload_n 0, 1) := dk_42 (dk_at dksX2_piano_5 0 rfl rfl)
theorem dX2_piano_120 : decode cX2_piano 120 = .ok (.getfield 42, 3) := dk_180 0 42 (dk_at dksX2_piano_5 1 rfl rfl)
theorem dX2_piano_123 : decode cX2_piano 123 = .ok (.iconst 4, 1) := dk_7 (dk_at dksX2_piano_5 4 rfl rfl)
theorem dX2_piano_124 : decode cX2_piano 124 = .ok (.iload_n 2, 1) := dk_28 (dk_at dksX2_piano_5 5 rfl rfl)
theorem dX2_piano_125 : decode cX2_piano 125 = .ok (.imul, 1) := dk_104 (dk_at dksX2_piano_5 6 rfl rfl)
theorem dX2_piano_126 : decode cX2_piano 126 = .ok (.iconst 3, 1) := dk_6 (dk_at dksX2_piano_5 7 rfl rfl)
theorem dX2_piano_127 : decode cX2_piano 127 = .ok (.iadd, 1) := dk_96 (dk_at dksX2_piano_5 8 rfl rfl)
theorem dX2_piano_128 : decode cX2_piano 128 = .ok (.iaload, 1) := dk_46 (dk_at dksX2_piano_5 9 rfl rfl)
theorem dX2_piano_129 : decode cX2_piano 129 = .ok (.iastore, 1) := dk_79 (dk_at dksX2_piano_5 10 rfl rfl)
theorem dX2_piano_130 : decode cX2_piano 130 = .ok (.aload_n 0, 1) := dk_42 (dk_at dksX2_piano_5 11 rfl rfl)
theorem dX2_piano_131 : decode cX2_piano 131 = .ok (.iconst 0, 1) := dk_3 (dk_at dksX2_piano_5 12 rfl rfl)
theorem dX2_piano_132 : decode cX2_piano 132 = .ok (.iload_n 2, 1) := dk_28 (dk_at dksX2_piano_5 13 rfl rfl)
theorem dX2_piano_133 : decode cX2_piano 133 = .ok (.aload_n 0, 1) := dk_42 (dk_at dksX2_piano_5 14 rfl rfl)
theorem dX2_piano_134 : decode cX2_piano 134 = .ok (.getfield 42, 3) := dk_180 0 42 (dk_at dksX2_piano_5 15 rfl rfl)
theorem dX2_piano_137 : decode cX2_piano 137 = .ok (.iconst 4, 1) := dk_7 (dk_at dksX2_piano_5 18 rfl rfl)
theorem dX2_piano_138 : decode cX2_piano 138 = .ok (.iload_n 2, 1) := dk_28 (dk_at dksX2_piano_5 19 rfl rfl)
theorem dX2_piano_139 : decode cX2_piano 139 = .ok (.imul, 1) := dk_104 (dk_at dksX2_piano_5 20 rfl rfl)
theorem dX2_piano_140 : decode cX2_piano 140 = .ok (.iconst 2, 1) := dk_5 (dk_at dksX2_piano_5 21 rfl rfl)
theorem dX2_piano_141 : decode cX2_piano 141 = .ok (.iadd, 1) := dk_96 (dk_at dksX2_piano_5 22 rfl rfl)
theorem dX2_piano_142 : decode cX2_piano 142 = .ok (.iaload, 1) := dk_46 (dk_at dksX2_piano_5 23 rfl rfl)
theorem dX2_piano_143 : decode cX2_piano 143 = .ok (.invokevirtual 145, 3) := dk_182 0 145 (dk_at dksX2_piano_6 0 rfl rfl)
theorem dX2_piano_146 : decode cX2_piano 146 = .ok (.iinc 2 1, 3) := dk_132 2 1 (dk_at dksX2_piano_6 3 rfl rfl)
theorem dX2_piano_149 : decode cX2_piano 149 = .ok (.goto (-73), 3) := dk_167 255 183 (dk_at dksX2_piano_6 6 rfl rfl)
theorem dX2_piano_152 : decode cX2_piano 152 = .ok (.aload_n 0, 1) := dk_42 (dk_at dksX2_piano_6 9 rfl rfl)
theorem dX2_piano_153 : decode cX2_piano 153 = .ok (.iconst 0, 1) := dk_3 (dk_at dksX2_piano_6 10 rfl rfl)
theorem dX2_piano_154 : decode cX2_piano 154 = .ok (.putfield 149, 3) := dk_181 0 149 (dk_at dksX2_piano_6 11 rfl rfl)
theorem dX2_piano_157 : decode cX2_piano 157 = .ok (.iconst 0, 1) := dk_3 (dk_at dksX2_piano_6 14 rfl rfl)
theorem dX2_piano_158 : decode cX2_piano 158 = .ok (.istore_n 2, 1) := dk_61 (dk_at dksX2_piano_6 15 rfl rfl)
theorem dX2_piano_159 : decode cX2_piano 159 = .ok (.iload_n 2, 1) := dk_28 (dk_at dksX2_piano_6 16 rfl rfl)
theorem dX2_piano_160 : decode cX2_piano 160 = .ok (.iconst 3, 1) := dk_6 (dk_at dksX2_piano_6 17 rfl rfl)
theorem dX2_piano_161 : decode cX2_piano 161 = .ok (.if_icmp .ge 16, 3) := dk_162 0 16 (dk_at dksX2_piano_6 18 rfl rfl)
theorem dX2_piano_164 : decode cX2_piano 164 = .ok (.aload_n 0, 1) := dk_42 (dk_at dksX2_piano_6 21 rfl rfl)
theorem dX2_piano_165 : decode cX2_piano 165 = .ok (.getfield 51, 3) := dk_180 0 51 (dk_at dksX2_piano_7 0 rfl rfl)
theorem dX2_piano_168 : decode cX2_piano 168 = .ok (.iload_n 2, 1) := dk_28 (dk_at dksX2_piano_7 3 rfl rfl)
theorem dX2_piano_169 : decode cX2_piano 169 = .ok (.iconst 0, 1) := dk_3 (dk_at dksX2_piano_7 4 rfl rfl)
theorem dX2_piano_170 : decode cX2_piano 170 = .ok (.bastore, 1) := dk_84 (dk_at dksX2_piano_7 5 rfl rfl)
theorem dX2_piano_171 : decode cX2_piano 171 = .ok (.iinc 2 1, 3) := dk_132 2 1 (dk_at dksX2_piano_7 6 rfl rfl)
theorem dX2_piano_174 : decode cX2_piano 174 = .ok (.goto (-15), 3) := dk_167 255 241 (dk_at dksX2_piano_7 9 rfl rfl)
theorem dX2_piano_177 : decode cX2_piano 177 = .ok (.aload_n 0, 1) := dk_42 (dk_at dksX2_piano_7 12 rfl rfl)
theorem dX2_piano_178 : decode cX2_piano 178 = .ok (.getfield 142, 3) := dk_180 0 142 (dk_at dksX2_piano_7 13 rfl rfl)
theorem dX2_piano_181 : decode cX2_piano 181 = .ok (.ireturn, 1) := dk_172 (dk_at dksX2_piano_7 16 rfl rfl)
abbrev cX2_place : ByteArray := prog_11_method_37_code
def yX2_place : MethodName := ⟨RX2, "place", "(III)V"⟩
def dkwX2_place_0 : List UInt8 := [42, 180, 0, 45, 16, 9, 27, 104, 28, 96, 29, 79, 177]
abbrev dktX2_place_0 : List UInt8 := dkwX2_place_0 ++ []
theorem dksX2_place_0 : cX2_place.data.toList.drop 0 = dktX2_place_0 := by decide +kernel
theorem dX2_place_0 : decode cX2_place 0 = .ok (.aload_n 0, 1) := dk_42 (dk_at dksX2_place_0 0 rfl rfl)
theorem dX2_place_1 : decode cX2_place 1 = .ok (.getfield 45, 3) := dk_180 0 45 (dk_at dksX2_place_0 1 rfl rfl)
theorem dX2_place_4 : decode cX2_place 4 = .ok (.bipush 9, 2) := dk_16 9 (dk_at dksX2_place_0 4 rfl rfl)
theorem dX2_place_6 : decode cX2_place 6 = .ok (.iload_n 1, 1) := dk_27 (dk_at dksX2_place_0 6 rfl rfl)
theorem dX2_place_7 : decode cX2_place 7 = .ok (.imul, 1) := dk_104 (dk_at dksX2_place_0 7 rfl rfl)
theorem dX2_place_8 : decode cX2_place 8 = .ok (.iload_n 2, 1) := dk_28 (dk_at dksX2_place_0 8 rfl rfl)
theorem dX2_place_9 : decode cX2_place 9 = .ok (.iadd, 1) := dk_96 (dk_at dksX2_place_0 9 rfl rfl)
theorem dX2_place_10 : decode cX2_place 10 = .ok (.iload_n 3, 1) := dk_29 (dk_at dksX2_place_0 10 rfl rfl)
theorem dX2_place_11 : decode cX2_place 11 = .ok (.iastore, 1) := dk_79 (dk_at dksX2_place_0 11 rfl rfl)
theorem dX2_place_12 : decode cX2_place 12 = .ok (.return_, 1) := dk_177 (dk_at dksX2_place_0 12 rfl rfl)
abbrev cX2_key : ByteArray := prog_11_method_49_code
def yX2_key : MethodName := ⟨RX2, "key", "(II)I"⟩
def dkwX2_key_1 : List UInt8 := [4, 182, 0, 105, 167, 0, 4, 2, 172]
abbrev dktX2_key_1 : List UInt8 := dkwX2_key_1 ++ []
def dkwX2_key_0 : List UInt8 := [42, 27, 182, 0, 174, 153, 0, 26, 28, 3, 7, 184, 0, 83, 153, 0, 17, 42, 42, 27, 28, 182, 0, 177]
abbrev dktX2_key_0 : List UInt8 := dkwX2_key_0 ++ dktX2_key_1
theorem dksX2_key_0 : cX2_key.data.toList.drop 0 = dktX2_key_0 := by decide +kernel
theorem dksX2_key_1 : cX2_key.data.toList.drop 24 = dktX2_key_1 := dk_seg dksX2_key_0 24 rfl rfl
theorem dX2_key_0 : decode cX2_key 0 = .ok (.aload_n 0, 1) := dk_42 (dk_at dksX2_key_0 0 rfl rfl)
theorem dX2_key_1 : decode cX2_key 1 = .ok (.iload_n 1, 1) := dk_27 (dk_at dksX2_key_0 1 rfl rfl)
theorem dX2_key_2 : decode cX2_key 2 = .ok (.invokevirtual 174, 3) := dk_182 0 174 (dk_at dksX2_key_0 2 rfl rfl)
theorem dX2_key_5 : decode cX2_key 5 = .ok (.ifCond .eq 26, 3) := dk_153 0 26 (dk_at dksX2_key_0 5 rfl rfl)
theorem dX2_key_8 : decode cX2_key 8 = .ok (.iload_n 2, 1) := dk_28 (dk_at dksX2_key_0 8 rfl rfl)
theorem dX2_key_9 : decode cX2_key 9 = .ok (.iconst 0, 1) := dk_3 (dk_at dksX2_key_0 9 rfl rfl)
theorem dX2_key_10 : decode cX2_key 10 = .ok (.iconst 4, 1) := dk_7 (dk_at dksX2_key_0 10 rfl rfl)
theorem dX2_key_11 : decode cX2_key 11 = .ok (.invokestatic 83, 3) := dk_184 0 83 (dk_at dksX2_key_0 11 rfl rfl)
theorem dX2_key_14 : decode cX2_key 14 = .ok (.ifCond .eq 17, 3) := dk_153 0 17 (dk_at dksX2_key_0 14 rfl rfl)
theorem dX2_key_17 : decode cX2_key 17 = .ok (.aload_n 0, 1) := dk_42 (dk_at dksX2_key_0 17 rfl rfl)
theorem dX2_key_18 : decode cX2_key 18 = .ok (.aload_n 0, 1) := dk_42 (dk_at dksX2_key_0 18 rfl rfl)
theorem dX2_key_19 : decode cX2_key 19 = .ok (.iload_n 1, 1) := dk_27 (dk_at dksX2_key_0 19 rfl rfl)
theorem dX2_key_20 : decode cX2_key 20 = .ok (.iload_n 2, 1) := dk_28 (dk_at dksX2_key_0 20 rfl rfl)
theorem dX2_key_21 : decode cX2_key 21 = .ok (.invokevirtual 177, 3) := dk_182 0 177 (dk_at dksX2_key_0 21 rfl rfl)
theorem dX2_key_24 : decode cX2_key 24 = .ok (.iconst 1, 1) := dk_4 (dk_at dksX2_key_1 0 rfl rfl)
theorem dX2_key_25 : decode cX2_key 25 = .ok (.invokevirtual 105, 3) := dk_182 0 105 (dk_at dksX2_key_1 1 rfl rfl)
theorem dX2_key_28 : decode cX2_key 28 = .ok (.goto 4, 3) := dk_167 0 4 (dk_at dksX2_key_1 4 rfl rfl)
theorem dX2_key_31 : decode cX2_key 31 = .ok (.iconst (-1), 1) := dk_2 (dk_at dksX2_key_1 7 rfl rfl)
theorem dX2_key_32 : decode cX2_key 32 = .ok (.ireturn, 1) := dk_172 (dk_at dksX2_key_1 8 rfl rfl)
abbrev cX2_isKey : ByteArray := prog_11_method_35_code
def yX2_isKey : MethodName := ⟨RX2, "isKey", "(I)Z"⟩
def dkwX2_isKey_0 : List UInt8 := [27, 3, 42, 180, 0, 142, 4, 100, 184, 0, 83, 172]
abbrev dktX2_isKey_0 : List UInt8 := dkwX2_isKey_0 ++ []
theorem dksX2_isKey_0 : cX2_isKey.data.toList.drop 0 = dktX2_isKey_0 := by decide +kernel
theorem dX2_isKey_0 : decode cX2_isKey 0 = .ok (.iload_n 1, 1) := dk_27 (dk_at dksX2_isKey_0 0 rfl rfl)
theorem dX2_isKey_1 : decode cX2_isKey 1 = .ok (.iconst 0, 1) := dk_3 (dk_at dksX2_isKey_0 1 rfl rfl)
theorem dX2_isKey_2 : decode cX2_isKey 2 = .ok (.aload_n 0, 1) := dk_42 (dk_at dksX2_isKey_0 2 rfl rfl)
theorem dX2_isKey_3 : decode cX2_isKey 3 = .ok (.getfield 142, 3) := dk_180 0 142 (dk_at dksX2_isKey_0 3 rfl rfl)
theorem dX2_isKey_6 : decode cX2_isKey 6 = .ok (.iconst 1, 1) := dk_4 (dk_at dksX2_isKey_0 6 rfl rfl)
theorem dX2_isKey_7 : decode cX2_isKey 7 = .ok (.isub, 1) := dk_100 (dk_at dksX2_isKey_0 7 rfl rfl)
theorem dX2_isKey_8 : decode cX2_isKey 8 = .ok (.invokestatic 83, 3) := dk_184 0 83 (dk_at dksX2_isKey_0 8 rfl rfl)
theorem dX2_isKey_11 : decode cX2_isKey 11 = .ok (.ireturn, 1) := dk_172 (dk_at dksX2_isKey_0 11 rfl rfl)
abbrev cX2_keyTells : ByteArray := prog_11_method_48_code
def yX2_keyTells : MethodName := ⟨RX2, "keyTells", "(II)I"⟩
def dkwX2_keyTells_3 : List UInt8 := [180, 0, 39, 27, 46, 172, 42, 3, 27, 182, 0, 155, 153, 0, 7, 4, 167, 0, 4, 3, 172]
abbrev dktX2_keyTells_3 : List UInt8 := dkwX2_keyTells_3 ++ []
def dkwX2_keyTells_2 : List UInt8 := [42, 180, 0, 33, 27, 46, 172, 42, 180, 0, 36, 27, 46, 172, 42, 3, 27, 182, 0, 152, 172, 42]
abbrev dktX2_keyTells_2 : List UInt8 := dkwX2_keyTells_2 ++ dktX2_keyTells_3
def dkwX2_keyTells_1 : List UInt8 := [170, 0, 0, 0, 0, 0, 59, 0, 0, 0, 0, 0, 0, 0, 3, 0, 0, 0, 31, 0, 0, 0, 38, 0, 0, 0, 45, 0, 0, 0, 52]
abbrev dktX2_keyTells_1 : List UInt8 := dkwX2_keyTells_1 ++ dktX2_keyTells_2
def dkwX2_keyTells_0 : List UInt8 := [28]
abbrev dktX2_keyTells_0 : List UInt8 := dkwX2_keyTells_0 ++ dktX2_keyTells_1
theorem dksX2_keyTells_0 : cX2_keyTells.data.toList.drop 0 = dktX2_keyTells_0 := by decide +kernel
theorem dksX2_keyTells_1 : cX2_keyTells.data.toList.drop 1 = dktX2_keyTells_1 := dk_seg dksX2_keyTells_0 1 rfl rfl
theorem dksX2_keyTells_2 : cX2_keyTells.data.toList.drop 32 = dktX2_keyTells_2 := dk_seg dksX2_keyTells_1 31 rfl rfl
theorem dksX2_keyTells_3 : cX2_keyTells.data.toList.drop 54 = dktX2_keyTells_3 := dk_seg dksX2_keyTells_2 22 rfl rfl
theorem dX2_keyTells_0 : decode cX2_keyTells 0 = .ok (.iload_n 2, 1) := dk_28 (dk_at dksX2_keyTells_0 0 rfl rfl)
theorem dX2_keyTells_1 : decode cX2_keyTells 1 = .ok (.tableswitch 59 0 3 #[31, 38, 45, 52], 31) := by decide +kernel
theorem dX2_keyTells_32 : decode cX2_keyTells 32 = .ok (.aload_n 0, 1) := dk_42 (dk_at dksX2_keyTells_2 0 rfl rfl)
theorem dX2_keyTells_33 : decode cX2_keyTells 33 = .ok (.getfield 33, 3) := dk_180 0 33 (dk_at dksX2_keyTells_2 1 rfl rfl)
theorem dX2_keyTells_36 : decode cX2_keyTells 36 = .ok (.iload_n 1, 1) := dk_27 (dk_at dksX2_keyTells_2 4 rfl rfl)
theorem dX2_keyTells_37 : decode cX2_keyTells 37 = .ok (.iaload, 1) := dk_46 (dk_at dksX2_keyTells_2 5 rfl rfl)
theorem dX2_keyTells_38 : decode cX2_keyTells 38 = .ok (.ireturn, 1) := dk_172 (dk_at dksX2_keyTells_2 6 rfl rfl)
theorem dX2_keyTells_39 : decode cX2_keyTells 39 = .ok (.aload_n 0, 1) := dk_42 (dk_at dksX2_keyTells_2 7 rfl rfl)
theorem dX2_keyTells_40 : decode cX2_keyTells 40 = .ok (.getfield 36, 3) := dk_180 0 36 (dk_at dksX2_keyTells_2 8 rfl rfl)
theorem dX2_keyTells_43 : decode cX2_keyTells 43 = .ok (.iload_n 1, 1) := dk_27 (dk_at dksX2_keyTells_2 11 rfl rfl)
theorem dX2_keyTells_44 : decode cX2_keyTells 44 = .ok (.iaload, 1) := dk_46 (dk_at dksX2_keyTells_2 12 rfl rfl)
theorem dX2_keyTells_45 : decode cX2_keyTells 45 = .ok (.ireturn, 1) := dk_172 (dk_at dksX2_keyTells_2 13 rfl rfl)
theorem dX2_keyTells_46 : decode cX2_keyTells 46 = .ok (.aload_n 0, 1) := dk_42 (dk_at dksX2_keyTells_2 14 rfl rfl)
theorem dX2_keyTells_47 : decode cX2_keyTells 47 = .ok (.iconst 0, 1) := dk_3 (dk_at dksX2_keyTells_2 15 rfl rfl)
theorem dX2_keyTells_48 : decode cX2_keyTells 48 = .ok (.iload_n 1, 1) := dk_27 (dk_at dksX2_keyTells_2 16 rfl rfl)
theorem dX2_keyTells_49 : decode cX2_keyTells 49 = .ok (.invokevirtual 152, 3) := dk_182 0 152 (dk_at dksX2_keyTells_2 17 rfl rfl)
theorem dX2_keyTells_52 : decode cX2_keyTells 52 = .ok (.ireturn, 1) := dk_172 (dk_at dksX2_keyTells_2 20 rfl rfl)
theorem dX2_keyTells_53 : decode cX2_keyTells 53 = .ok (.aload_n 0, 1) := dk_42 (dk_at dksX2_keyTells_2 21 rfl rfl)
theorem dX2_keyTells_54 : decode cX2_keyTells 54 = .ok (.getfield 39, 3) := dk_180 0 39 (dk_at dksX2_keyTells_3 0 rfl rfl)
theorem dX2_keyTells_57 : decode cX2_keyTells 57 = .ok (.iload_n 1, 1) := dk_27 (dk_at dksX2_keyTells_3 3 rfl rfl)
theorem dX2_keyTells_58 : decode cX2_keyTells 58 = .ok (.iaload, 1) := dk_46 (dk_at dksX2_keyTells_3 4 rfl rfl)
theorem dX2_keyTells_59 : decode cX2_keyTells 59 = .ok (.ireturn, 1) := dk_172 (dk_at dksX2_keyTells_3 5 rfl rfl)
theorem dX2_keyTells_60 : decode cX2_keyTells 60 = .ok (.aload_n 0, 1) := dk_42 (dk_at dksX2_keyTells_3 6 rfl rfl)
theorem dX2_keyTells_61 : decode cX2_keyTells 61 = .ok (.iconst 0, 1) := dk_3 (dk_at dksX2_keyTells_3 7 rfl rfl)
theorem dX2_keyTells_62 : decode cX2_keyTells 62 = .ok (.iload_n 1, 1) := dk_27 (dk_at dksX2_keyTells_3 8 rfl rfl)
theorem dX2_keyTells_63 : decode cX2_keyTells 63 = .ok (.invokevirtual 155, 3) := dk_182 0 155 (dk_at dksX2_keyTells_3 9 rfl rfl)
theorem dX2_keyTells_66 : decode cX2_keyTells 66 = .ok (.ifCond .eq 7, 3) := dk_153 0 7 (dk_at dksX2_keyTells_3 12 rfl rfl)
theorem dX2_keyTells_69 : decode cX2_keyTells 69 = .ok (.iconst 1, 1) := dk_4 (dk_at dksX2_keyTells_3 15 rfl rfl)
theorem dX2_keyTells_70 : decode cX2_keyTells 70 = .ok (.goto 4, 3) := dk_167 0 4 (dk_at dksX2_keyTells_3 16 rfl rfl)
theorem dX2_keyTells_73 : decode cX2_keyTells 73 = .ok (.iconst 0, 1) := dk_3 (dk_at dksX2_keyTells_3 19 rfl rfl)
theorem dX2_keyTells_74 : decode cX2_keyTells 74 = .ok (.ireturn, 1) := dk_172 (dk_at dksX2_keyTells_3 20 rfl rfl)
abbrev cX2_v : ByteArray := prog_11_method_36_code
def yX2_v : MethodName := ⟨RX2, "v", "(II)I"⟩
def dkwX2_v_0 : List UInt8 := [42, 180, 0, 45, 16, 9, 27, 104, 28, 96, 46, 172]
abbrev dktX2_v_0 : List UInt8 := dkwX2_v_0 ++ []
theorem dksX2_v_0 : cX2_v.data.toList.drop 0 = dktX2_v_0 := by decide +kernel
theorem dX2_v_0 : decode cX2_v 0 = .ok (.aload_n 0, 1) := dk_42 (dk_at dksX2_v_0 0 rfl rfl)
theorem dX2_v_1 : decode cX2_v 1 = .ok (.getfield 45, 3) := dk_180 0 45 (dk_at dksX2_v_0 1 rfl rfl)
theorem dX2_v_4 : decode cX2_v 4 = .ok (.bipush 9, 2) := dk_16 9 (dk_at dksX2_v_0 4 rfl rfl)
theorem dX2_v_6 : decode cX2_v 6 = .ok (.iload_n 1, 1) := dk_27 (dk_at dksX2_v_0 6 rfl rfl)
theorem dX2_v_7 : decode cX2_v 7 = .ok (.imul, 1) := dk_104 (dk_at dksX2_v_0 7 rfl rfl)
theorem dX2_v_8 : decode cX2_v 8 = .ok (.iload_n 2, 1) := dk_28 (dk_at dksX2_v_0 8 rfl rfl)
theorem dX2_v_9 : decode cX2_v 9 = .ok (.iadd, 1) := dk_96 (dk_at dksX2_v_0 9 rfl rfl)
theorem dX2_v_10 : decode cX2_v 10 = .ok (.iaload, 1) := dk_46 (dk_at dksX2_v_0 10 rfl rfl)
theorem dX2_v_11 : decode cX2_v 11 = .ok (.ireturn, 1) := dk_172 (dk_at dksX2_v_0 11 rfl rfl)
abbrev cX2_canPlay : ByteArray := prog_11_method_40_code
def yX2_canPlay : MethodName := ⟨RX2, "canPlay", "(II)Z"⟩
def dkwX2_canPlay_1 : List UInt8 := [29, 5, 160, 0, 7, 5, 167, 0, 4, 3, 96, 163, 0, 7, 4, 167, 0, 4, 3, 172]
abbrev dktX2_canPlay_1 : List UInt8 := dkwX2_canPlay_1 ++ []
def dkwX2_canPlay_0 : List UInt8 := [42, 180, 0, 33, 28, 46, 62, 29, 8, 159, 0, 29, 42, 27, 28, 182, 0, 152, 42, 180, 0, 36, 28, 46]
abbrev dktX2_canPlay_0 : List UInt8 := dkwX2_canPlay_0 ++ dktX2_canPlay_1
theorem dksX2_canPlay_0 : cX2_canPlay.data.toList.drop 0 = dktX2_canPlay_0 := by decide +kernel
theorem dksX2_canPlay_1 : cX2_canPlay.data.toList.drop 24 = dktX2_canPlay_1 := dk_seg dksX2_canPlay_0 24 rfl rfl
theorem dX2_canPlay_0 : decode cX2_canPlay 0 = .ok (.aload_n 0, 1) := dk_42 (dk_at dksX2_canPlay_0 0 rfl rfl)
theorem dX2_canPlay_1 : decode cX2_canPlay 1 = .ok (.getfield 33, 3) := dk_180 0 33 (dk_at dksX2_canPlay_0 1 rfl rfl)
theorem dX2_canPlay_4 : decode cX2_canPlay 4 = .ok (.iload_n 2, 1) := dk_28 (dk_at dksX2_canPlay_0 4 rfl rfl)
theorem dX2_canPlay_5 : decode cX2_canPlay 5 = .ok (.iaload, 1) := dk_46 (dk_at dksX2_canPlay_0 5 rfl rfl)
theorem dX2_canPlay_6 : decode cX2_canPlay 6 = .ok (.istore_n 3, 1) := dk_62 (dk_at dksX2_canPlay_0 6 rfl rfl)
theorem dX2_canPlay_7 : decode cX2_canPlay 7 = .ok (.iload_n 3, 1) := dk_29 (dk_at dksX2_canPlay_0 7 rfl rfl)
theorem dX2_canPlay_8 : decode cX2_canPlay 8 = .ok (.iconst 5, 1) := dk_8 (dk_at dksX2_canPlay_0 8 rfl rfl)
theorem dX2_canPlay_9 : decode cX2_canPlay 9 = .ok (.if_icmp .eq 29, 3) := dk_159 0 29 (dk_at dksX2_canPlay_0 9 rfl rfl)
theorem dX2_canPlay_12 : decode cX2_canPlay 12 = .ok (.aload_n 0, 1) := dk_42 (dk_at dksX2_canPlay_0 12 rfl rfl)
theorem dX2_canPlay_13 : decode cX2_canPlay 13 = .ok (.iload_n 1, 1) := dk_27 (dk_at dksX2_canPlay_0 13 rfl rfl)
theorem dX2_canPlay_14 : decode cX2_canPlay 14 = .ok (.iload_n 2, 1) := dk_28 (dk_at dksX2_canPlay_0 14 rfl rfl)
theorem dX2_canPlay_15 : decode cX2_canPlay 15 = .ok (.invokevirtual 152, 3) := dk_182 0 152 (dk_at dksX2_canPlay_0 15 rfl rfl)
theorem dX2_canPlay_18 : decode cX2_canPlay 18 = .ok (.aload_n 0, 1) := dk_42 (dk_at dksX2_canPlay_0 18 rfl rfl)
theorem dX2_canPlay_19 : decode cX2_canPlay 19 = .ok (.getfield 36, 3) := dk_180 0 36 (dk_at dksX2_canPlay_0 19 rfl rfl)
theorem dX2_canPlay_22 : decode cX2_canPlay 22 = .ok (.iload_n 2, 1) := dk_28 (dk_at dksX2_canPlay_0 22 rfl rfl)
theorem dX2_canPlay_23 : decode cX2_canPlay 23 = .ok (.iaload, 1) := dk_46 (dk_at dksX2_canPlay_0 23 rfl rfl)
theorem dX2_canPlay_24 : decode cX2_canPlay 24 = .ok (.iload_n 3, 1) := dk_29 (dk_at dksX2_canPlay_1 0 rfl rfl)
theorem dX2_canPlay_25 : decode cX2_canPlay 25 = .ok (.iconst 2, 1) := dk_5 (dk_at dksX2_canPlay_1 1 rfl rfl)
theorem dX2_canPlay_26 : decode cX2_canPlay 26 = .ok (.if_icmp .ne 7, 3) := dk_160 0 7 (dk_at dksX2_canPlay_1 2 rfl rfl)
theorem dX2_canPlay_29 : decode cX2_canPlay 29 = .ok (.iconst 2, 1) := dk_5 (dk_at dksX2_canPlay_1 5 rfl rfl)
theorem dX2_canPlay_30 : decode cX2_canPlay 30 = .ok (.goto 4, 3) := dk_167 0 4 (dk_at dksX2_canPlay_1 6 rfl rfl)
theorem dX2_canPlay_33 : decode cX2_canPlay 33 = .ok (.iconst 0, 1) := dk_3 (dk_at dksX2_canPlay_1 9 rfl rfl)
theorem dX2_canPlay_34 : decode cX2_canPlay 34 = .ok (.iadd, 1) := dk_96 (dk_at dksX2_canPlay_1 10 rfl rfl)
theorem dX2_canPlay_35 : decode cX2_canPlay 35 = .ok (.if_icmp .gt 7, 3) := dk_163 0 7 (dk_at dksX2_canPlay_1 11 rfl rfl)
theorem dX2_canPlay_38 : decode cX2_canPlay 38 = .ok (.iconst 1, 1) := dk_4 (dk_at dksX2_canPlay_1 14 rfl rfl)
theorem dX2_canPlay_39 : decode cX2_canPlay 39 = .ok (.goto 4, 3) := dk_167 0 4 (dk_at dksX2_canPlay_1 15 rfl rfl)
theorem dX2_canPlay_42 : decode cX2_canPlay 42 = .ok (.iconst 0, 1) := dk_3 (dk_at dksX2_canPlay_1 18 rfl rfl)
theorem dX2_canPlay_43 : decode cX2_canPlay 43 = .ok (.ireturn, 1) := dk_172 (dk_at dksX2_canPlay_1 19 rfl rfl)
abbrev cX2_mark : ByteArray := prog_11_method_50_code
def yX2_mark : MethodName := ⟨RX2, "mark", "(II)I"⟩
def dkwX2_mark_6 : List UInt8 := [182, 0, 183, 184, 0, 186, 100, 172]
abbrev dktX2_mark_6 : List UInt8 := dkwX2_mark_6 ++ []
def dkwX2_mark_5 : List UInt8 := [100, 184, 0, 180, 172, 42, 3, 42, 27, 182, 0, 171, 182, 0, 152, 172, 27, 172, 42, 180, 0, 142, 42, 3]
abbrev dktX2_mark_5 : List UInt8 := dkwX2_mark_5 ++ dktX2_mark_6
def dkwX2_mark_4 : List UInt8 := [5, 42, 3, 27, 182, 0, 152, 184, 0, 158, 172, 3, 42, 3, 27, 182, 0, 152, 42, 180, 0, 36, 27, 46]
abbrev dktX2_mark_4 : List UInt8 := dkwX2_mark_4 ++ dktX2_mark_5
def dkwX2_mark_3 : List UInt8 := [170, 0, 0, 0, 0, 72, 0, 0, 0, 1, 0, 0, 0, 4, 0, 0, 0, 30, 0, 0, 0, 41, 0, 0, 0, 59, 0, 0, 0, 70]
abbrev dktX2_mark_3 : List UInt8 := dkwX2_mark_3 ++ dktX2_mark_4
def dkwX2_mark_2 : List UInt8 := [159, 0, 9, 42, 6, 182, 0, 97, 172, 28]
abbrev dktX2_mark_2 : List UInt8 := dkwX2_mark_2 ++ dktX2_mark_3
def dkwX2_mark_1 : List UInt8 := [46, 62, 29, 28, 159, 0, 29, 28, 4, 160, 0, 8, 29, 7, 159, 0, 19, 28, 5, 160, 0, 8, 29, 8]
abbrev dktX2_mark_1 : List UInt8 := dkwX2_mark_1 ++ dktX2_mark_2
def dkwX2_mark_0 : List UInt8 := [42, 27, 182, 0, 174, 153, 0, 12, 28, 4, 8, 184, 0, 83, 154, 0, 5, 2, 172, 42, 180, 0, 33, 27]
abbrev dktX2_mark_0 : List UInt8 := dkwX2_mark_0 ++ dktX2_mark_1
theorem dksX2_mark_0 : cX2_mark.data.toList.drop 0 = dktX2_mark_0 := by decide +kernel
theorem dksX2_mark_1 : cX2_mark.data.toList.drop 24 = dktX2_mark_1 := dk_seg dksX2_mark_0 24 rfl rfl
theorem dksX2_mark_2 : cX2_mark.data.toList.drop 48 = dktX2_mark_2 := dk_seg dksX2_mark_1 24 rfl rfl
theorem dksX2_mark_3 : cX2_mark.data.toList.drop 58 = dktX2_mark_3 := dk_seg dksX2_mark_2 10 rfl rfl
theorem dksX2_mark_4 : cX2_mark.data.toList.drop 88 = dktX2_mark_4 := dk_seg dksX2_mark_3 30 rfl rfl
theorem dksX2_mark_5 : cX2_mark.data.toList.drop 112 = dktX2_mark_5 := dk_seg dksX2_mark_4 24 rfl rfl
theorem dksX2_mark_6 : cX2_mark.data.toList.drop 136 = dktX2_mark_6 := dk_seg dksX2_mark_5 24 rfl rfl
theorem dX2_mark_0 : decode cX2_mark 0 = .ok (.aload_n 0, 1) := dk_42 (dk_at dksX2_mark_0 0 rfl rfl)
theorem dX2_mark_1 : decode cX2_mark 1 = .ok (.iload_n 1, 1) := dk_27 (dk_at dksX2_mark_0 1 rfl rfl)
theorem dX2_mark_2 : decode cX2_mark 2 = .ok (.invokevirtual 174, 3) := dk_182 0 174 (dk_at dksX2_mark_0 2 rfl rfl)
theorem dX2_mark_5 : decode cX2_mark 5 = .ok (.ifCond .eq 12, 3) := dk_153 0 12 (dk_at dksX2_mark_0 5 rfl rfl)
theorem dX2_mark_8 : decode cX2_mark 8 = .ok (.iload_n 2, 1) := dk_28 (dk_at dksX2_mark_0 8 rfl rfl)
theorem dX2_mark_9 : decode cX2_mark 9 = .ok (.iconst 1, 1) := dk_4 (dk_at dksX2_mark_0 9 rfl rfl)
theorem dX2_mark_10 : decode cX2_mark 10 = .ok (.iconst 5, 1) := dk_8 (dk_at dksX2_mark_0 10 rfl rfl)
theorem dX2_mark_11 : decode cX2_mark 11 = .ok (.invokestatic 83, 3) := dk_184 0 83 (dk_at dksX2_mark_0 11 rfl rfl)
theorem dX2_mark_14 : decode cX2_mark 14 = .ok (.ifCond .ne 5, 3) := dk_154 0 5 (dk_at dksX2_mark_0 14 rfl rfl)
theorem dX2_mark_17 : decode cX2_mark 17 = .ok (.iconst (-1), 1) := dk_2 (dk_at dksX2_mark_0 17 rfl rfl)
theorem dX2_mark_18 : decode cX2_mark 18 = .ok (.ireturn, 1) := dk_172 (dk_at dksX2_mark_0 18 rfl rfl)
theorem dX2_mark_19 : decode cX2_mark 19 = .ok (.aload_n 0, 1) := dk_42 (dk_at dksX2_mark_0 19 rfl rfl)
theorem dX2_mark_20 : decode cX2_mark 20 = .ok (.getfield 33, 3) := dk_180 0 33 (dk_at dksX2_mark_0 20 rfl rfl)
theorem dX2_mark_23 : decode cX2_mark 23 = .ok (.iload_n 1, 1) := dk_27 (dk_at dksX2_mark_0 23 rfl rfl)
theorem dX2_mark_24 : decode cX2_mark 24 = .ok (.iaload, 1) := dk_46 (dk_at dksX2_mark_1 0 rfl rfl)
theorem dX2_mark_25 : decode cX2_mark 25 = .ok (.istore_n 3, 1) := dk_62 (dk_at dksX2_mark_1 1 rfl rfl)
theorem dX2_mark_26 : decode cX2_mark 26 = .ok (.iload_n 3, 1) := dk_29 (dk_at dksX2_mark_1 2 rfl rfl)
theorem dX2_mark_27 : decode cX2_mark 27 = .ok (.iload_n 2, 1) := dk_28 (dk_at dksX2_mark_1 3 rfl rfl)
theorem dX2_mark_28 : decode cX2_mark 28 = .ok (.if_icmp .eq 29, 3) := dk_159 0 29 (dk_at dksX2_mark_1 4 rfl rfl)
theorem dX2_mark_31 : decode cX2_mark 31 = .ok (.iload_n 2, 1) := dk_28 (dk_at dksX2_mark_1 7 rfl rfl)
theorem dX2_mark_32 : decode cX2_mark 32 = .ok (.iconst 1, 1) := dk_4 (dk_at dksX2_mark_1 8 rfl rfl)
theorem dX2_mark_33 : decode cX2_mark 33 = .ok (.if_icmp .ne 8, 3) := dk_160 0 8 (dk_at dksX2_mark_1 9 rfl rfl)
theorem dX2_mark_36 : decode cX2_mark 36 = .ok (.iload_n 3, 1) := dk_29 (dk_at dksX2_mark_1 12 rfl rfl)
theorem dX2_mark_37 : decode cX2_mark 37 = .ok (.iconst 4, 1) := dk_7 (dk_at dksX2_mark_1 13 rfl rfl)
theorem dX2_mark_38 : decode cX2_mark 38 = .ok (.if_icmp .eq 19, 3) := dk_159 0 19 (dk_at dksX2_mark_1 14 rfl rfl)
theorem dX2_mark_41 : decode cX2_mark 41 = .ok (.iload_n 2, 1) := dk_28 (dk_at dksX2_mark_1 17 rfl rfl)
theorem dX2_mark_42 : decode cX2_mark 42 = .ok (.iconst 2, 1) := dk_5 (dk_at dksX2_mark_1 18 rfl rfl)
theorem dX2_mark_43 : decode cX2_mark 43 = .ok (.if_icmp .ne 8, 3) := dk_160 0 8 (dk_at dksX2_mark_1 19 rfl rfl)
theorem dX2_mark_46 : decode cX2_mark 46 = .ok (.iload_n 3, 1) := dk_29 (dk_at dksX2_mark_1 22 rfl rfl)
theorem dX2_mark_47 : decode cX2_mark 47 = .ok (.iconst 5, 1) := dk_8 (dk_at dksX2_mark_1 23 rfl rfl)
theorem dX2_mark_48 : decode cX2_mark 48 = .ok (.if_icmp .eq 9, 3) := dk_159 0 9 (dk_at dksX2_mark_2 0 rfl rfl)
theorem dX2_mark_51 : decode cX2_mark 51 = .ok (.aload_n 0, 1) := dk_42 (dk_at dksX2_mark_2 3 rfl rfl)
theorem dX2_mark_52 : decode cX2_mark 52 = .ok (.iconst 3, 1) := dk_6 (dk_at dksX2_mark_2 4 rfl rfl)
theorem dX2_mark_53 : decode cX2_mark 53 = .ok (.invokevirtual 97, 3) := dk_182 0 97 (dk_at dksX2_mark_2 5 rfl rfl)
theorem dX2_mark_56 : decode cX2_mark 56 = .ok (.ireturn, 1) := dk_172 (dk_at dksX2_mark_2 8 rfl rfl)
theorem dX2_mark_57 : decode cX2_mark 57 = .ok (.iload_n 2, 1) := dk_28 (dk_at dksX2_mark_2 9 rfl rfl)
theorem dX2_mark_58 : decode cX2_mark 58 = .ok (.tableswitch 72 1 4 #[30, 41, 59, 70], 30) := by decide +kernel
theorem dX2_mark_88 : decode cX2_mark 88 = .ok (.iconst 2, 1) := dk_5 (dk_at dksX2_mark_4 0 rfl rfl)
theorem dX2_mark_89 : decode cX2_mark 89 = .ok (.aload_n 0, 1) := dk_42 (dk_at dksX2_mark_4 1 rfl rfl)
theorem dX2_mark_90 : decode cX2_mark 90 = .ok (.iconst 0, 1) := dk_3 (dk_at dksX2_mark_4 2 rfl rfl)
theorem dX2_mark_91 : decode cX2_mark 91 = .ok (.iload_n 1, 1) := dk_27 (dk_at dksX2_mark_4 3 rfl rfl)
theorem dX2_mark_92 : decode cX2_mark 92 = .ok (.invokevirtual 152, 3) := dk_182 0 152 (dk_at dksX2_mark_4 4 rfl rfl)
theorem dX2_mark_95 : decode cX2_mark 95 = .ok (.invokestatic 158, 3) := dk_184 0 158 (dk_at dksX2_mark_4 7 rfl rfl)
theorem dX2_mark_98 : decode cX2_mark 98 = .ok (.ireturn, 1) := dk_172 (dk_at dksX2_mark_4 10 rfl rfl)
theorem dX2_mark_99 : decode cX2_mark 99 = .ok (.iconst 0, 1) := dk_3 (dk_at dksX2_mark_4 11 rfl rfl)
theorem dX2_mark_100 : decode cX2_mark 100 = .ok (.aload_n 0, 1) := dk_42 (dk_at dksX2_mark_4 12 rfl rfl)
theorem dX2_mark_101 : decode cX2_mark 101 = .ok (.iconst 0, 1) := dk_3 (dk_at dksX2_mark_4 13 rfl rfl)
theorem dX2_mark_102 : decode cX2_mark 102 = .ok (.iload_n 1, 1) := dk_27 (dk_at dksX2_mark_4 14 rfl rfl)
theorem dX2_mark_103 : decode cX2_mark 103 = .ok (.invokevirtual 152, 3) := dk_182 0 152 (dk_at dksX2_mark_4 15 rfl rfl)
theorem dX2_mark_106 : decode cX2_mark 106 = .ok (.aload_n 0, 1) := dk_42 (dk_at dksX2_mark_4 18 rfl rfl)
theorem dX2_mark_107 : decode cX2_mark 107 = .ok (.getfield 36, 3) := dk_180 0 36 (dk_at dksX2_mark_4 19 rfl rfl)
theorem dX2_mark_110 : decode cX2_mark 110 = .ok (.iload_n 1, 1) := dk_27 (dk_at dksX2_mark_4 22 rfl rfl)
theorem dX2_mark_111 : decode cX2_mark 111 = .ok (.iaload, 1) := dk_46 (dk_at dksX2_mark_4 23 rfl rfl)
theorem dX2_mark_112 : decode cX2_mark 112 = .ok (.isub, 1) := dk_100 (dk_at dksX2_mark_5 0 rfl rfl)
theorem dX2_mark_113 : decode cX2_mark 113 = .ok (.invokestatic 180, 3) := dk_184 0 180 (dk_at dksX2_mark_5 1 rfl rfl)
theorem dX2_mark_116 : decode cX2_mark 116 = .ok (.ireturn, 1) := dk_172 (dk_at dksX2_mark_5 4 rfl rfl)
theorem dX2_mark_117 : decode cX2_mark 117 = .ok (.aload_n 0, 1) := dk_42 (dk_at dksX2_mark_5 5 rfl rfl)
theorem dX2_mark_118 : decode cX2_mark 118 = .ok (.iconst 0, 1) := dk_3 (dk_at dksX2_mark_5 6 rfl rfl)
theorem dX2_mark_119 : decode cX2_mark 119 = .ok (.aload_n 0, 1) := dk_42 (dk_at dksX2_mark_5 7 rfl rfl)
theorem dX2_mark_120 : decode cX2_mark 120 = .ok (.iload_n 1, 1) := dk_27 (dk_at dksX2_mark_5 8 rfl rfl)
theorem dX2_mark_121 : decode cX2_mark 121 = .ok (.invokevirtual 171, 3) := dk_182 0 171 (dk_at dksX2_mark_5 9 rfl rfl)
theorem dX2_mark_124 : decode cX2_mark 124 = .ok (.invokevirtual 152, 3) := dk_182 0 152 (dk_at dksX2_mark_5 12 rfl rfl)
theorem dX2_mark_127 : decode cX2_mark 127 = .ok (.ireturn, 1) := dk_172 (dk_at dksX2_mark_5 15 rfl rfl)
theorem dX2_mark_128 : decode cX2_mark 128 = .ok (.iload_n 1, 1) := dk_27 (dk_at dksX2_mark_5 16 rfl rfl)
theorem dX2_mark_129 : decode cX2_mark 129 = .ok (.ireturn, 1) := dk_172 (dk_at dksX2_mark_5 17 rfl rfl)
theorem dX2_mark_130 : decode cX2_mark 130 = .ok (.aload_n 0, 1) := dk_42 (dk_at dksX2_mark_5 18 rfl rfl)
theorem dX2_mark_131 : decode cX2_mark 131 = .ok (.getfield 142, 3) := dk_180 0 142 (dk_at dksX2_mark_5 19 rfl rfl)
theorem dX2_mark_134 : decode cX2_mark 134 = .ok (.aload_n 0, 1) := dk_42 (dk_at dksX2_mark_5 22 rfl rfl)
theorem dX2_mark_135 : decode cX2_mark 135 = .ok (.iconst 0, 1) := dk_3 (dk_at dksX2_mark_5 23 rfl rfl)
theorem dX2_mark_136 : decode cX2_mark 136 = .ok (.invokevirtual 183, 3) := dk_182 0 183 (dk_at dksX2_mark_6 0 rfl rfl)
theorem dX2_mark_139 : decode cX2_mark 139 = .ok (.invokestatic 186, 3) := dk_184 0 186 (dk_at dksX2_mark_6 3 rfl rfl)
theorem dX2_mark_142 : decode cX2_mark 142 = .ok (.isub, 1) := dk_100 (dk_at dksX2_mark_6 6 rfl rfl)
theorem dX2_mark_143 : decode cX2_mark 143 = .ok (.ireturn, 1) := dk_172 (dk_at dksX2_mark_6 7 rfl rfl)
abbrev cX2_lesser : ByteArray := prog_11_method_5_code
def yX2_lesser : MethodName := ⟨RX2, "lesser", "(II)I"⟩
def dkwX2_lesser_0 : List UInt8 := [26, 27, 162, 0, 7, 26, 167, 0, 4, 27, 172]
abbrev dktX2_lesser_0 : List UInt8 := dkwX2_lesser_0 ++ []
theorem dksX2_lesser_0 : cX2_lesser.data.toList.drop 0 = dktX2_lesser_0 := by decide +kernel
theorem dX2_lesser_0 : decode cX2_lesser 0 = .ok (.iload_n 0, 1) := dk_26 (dk_at dksX2_lesser_0 0 rfl rfl)
theorem dX2_lesser_1 : decode cX2_lesser 1 = .ok (.iload_n 1, 1) := dk_27 (dk_at dksX2_lesser_0 1 rfl rfl)
theorem dX2_lesser_2 : decode cX2_lesser 2 = .ok (.if_icmp .ge 7, 3) := dk_162 0 7 (dk_at dksX2_lesser_0 2 rfl rfl)
theorem dX2_lesser_5 : decode cX2_lesser 5 = .ok (.iload_n 0, 1) := dk_26 (dk_at dksX2_lesser_0 5 rfl rfl)
theorem dX2_lesser_6 : decode cX2_lesser 6 = .ok (.goto 4, 3) := dk_167 0 4 (dk_at dksX2_lesser_0 6 rfl rfl)
theorem dX2_lesser_9 : decode cX2_lesser 9 = .ok (.iload_n 1, 1) := dk_27 (dk_at dksX2_lesser_0 9 rfl rfl)
theorem dX2_lesser_10 : decode cX2_lesser 10 = .ok (.ireturn, 1) := dk_172 (dk_at dksX2_lesser_0 10 rfl rfl)
abbrev cX2_greater : ByteArray := prog_11_method_6_code
def yX2_greater : MethodName := ⟨RX2, "greater", "(II)I"⟩
def dkwX2_greater_0 : List UInt8 := [26, 27, 164, 0, 7, 26, 167, 0, 4, 27, 172]
abbrev dktX2_greater_0 : List UInt8 := dkwX2_greater_0 ++ []
theorem dksX2_greater_0 : cX2_greater.data.toList.drop 0 = dktX2_greater_0 := by decide +kernel
theorem dX2_greater_0 : decode cX2_greater 0 = .ok (.iload_n 0, 1) := dk_26 (dk_at dksX2_greater_0 0 rfl rfl)
theorem dX2_greater_1 : decode cX2_greater 1 = .ok (.iload_n 1, 1) := dk_27 (dk_at dksX2_greater_0 1 rfl rfl)
theorem dX2_greater_2 : decode cX2_greater 2 = .ok (.if_icmp .le 7, 3) := dk_164 0 7 (dk_at dksX2_greater_0 2 rfl rfl)
theorem dX2_greater_5 : decode cX2_greater 5 = .ok (.iload_n 0, 1) := dk_26 (dk_at dksX2_greater_0 5 rfl rfl)
theorem dX2_greater_6 : decode cX2_greater 6 = .ok (.goto 4, 3) := dk_167 0 4 (dk_at dksX2_greater_0 6 rfl rfl)
theorem dX2_greater_9 : decode cX2_greater 9 = .ok (.iload_n 1, 1) := dk_27 (dk_at dksX2_greater_0 9 rfl rfl)
theorem dX2_greater_10 : decode cX2_greater 10 = .ok (.ireturn, 1) := dk_172 (dk_at dksX2_greater_0 10 rfl rfl)
abbrev cX2_leftOf : ByteArray := prog_11_method_43_code
def yX2_leftOf : MethodName := ⟨RX2, "leftOf", "(I)I"⟩
def dkwX2_leftOf_0 : List UInt8 := [27, 154, 0, 8, 16, 6, 167, 0, 6, 27, 4, 100, 172]
abbrev dktX2_leftOf_0 : List UInt8 := dkwX2_leftOf_0 ++ []
theorem dksX2_leftOf_0 : cX2_leftOf.data.toList.drop 0 = dktX2_leftOf_0 := by decide +kernel
theorem dX2_leftOf_0 : decode cX2_leftOf 0 = .ok (.iload_n 1, 1) := dk_27 (dk_at dksX2_leftOf_0 0 rfl rfl)
theorem dX2_leftOf_1 : decode cX2_leftOf 1 = .ok (.ifCond .ne 8, 3) := dk_154 0 8 (dk_at dksX2_leftOf_0 1 rfl rfl)
theorem dX2_leftOf_4 : decode cX2_leftOf 4 = .ok (.bipush 6, 2) := dk_16 6 (dk_at dksX2_leftOf_0 4 rfl rfl)
theorem dX2_leftOf_6 : decode cX2_leftOf 6 = .ok (.goto 6, 3) := dk_167 0 6 (dk_at dksX2_leftOf_0 6 rfl rfl)
theorem dX2_leftOf_9 : decode cX2_leftOf 9 = .ok (.iload_n 1, 1) := dk_27 (dk_at dksX2_leftOf_0 9 rfl rfl)
theorem dX2_leftOf_10 : decode cX2_leftOf 10 = .ok (.iconst 1, 1) := dk_4 (dk_at dksX2_leftOf_0 10 rfl rfl)
theorem dX2_leftOf_11 : decode cX2_leftOf 11 = .ok (.isub, 1) := dk_100 (dk_at dksX2_leftOf_0 11 rfl rfl)
theorem dX2_leftOf_12 : decode cX2_leftOf 12 = .ok (.ireturn, 1) := dk_172 (dk_at dksX2_leftOf_0 12 rfl rfl)
abbrev cX2_canSet : ByteArray := prog_11_method_41_code
def yX2_canSet : MethodName := ⟨RX2, "canSet", "(I)I"⟩
def dkwX2_canSet_1 : List UInt8 := [120, 167, 0, 4, 3, 128, 61, 132, 3, 1, 167, 255, 226, 28, 172]
abbrev dktX2_canSet_1 : List UInt8 := dkwX2_canSet_1 ++ []
def dkwX2_canSet_0 : List UInt8 := [3, 61, 3, 62, 29, 42, 180, 0, 142, 162, 0, 28, 28, 42, 27, 29, 182, 0, 155, 153, 0, 9, 4, 29]
abbrev dktX2_canSet_0 : List UInt8 := dkwX2_canSet_0 ++ dktX2_canSet_1
theorem dksX2_canSet_0 : cX2_canSet.data.toList.drop 0 = dktX2_canSet_0 := by decide +kernel
theorem dksX2_canSet_1 : cX2_canSet.data.toList.drop 24 = dktX2_canSet_1 := dk_seg dksX2_canSet_0 24 rfl rfl
theorem dX2_canSet_0 : decode cX2_canSet 0 = .ok (.iconst 0, 1) := dk_3 (dk_at dksX2_canSet_0 0 rfl rfl)
theorem dX2_canSet_1 : decode cX2_canSet 1 = .ok (.istore_n 2, 1) := dk_61 (dk_at dksX2_canSet_0 1 rfl rfl)
theorem dX2_canSet_2 : decode cX2_canSet 2 = .ok (.iconst 0, 1) := dk_3 (dk_at dksX2_canSet_0 2 rfl rfl)
theorem dX2_canSet_3 : decode cX2_canSet 3 = .ok (.istore_n 3, 1) := dk_62 (dk_at dksX2_canSet_0 3 rfl rfl)
theorem dX2_canSet_4 : decode cX2_canSet 4 = .ok (.iload_n 3, 1) := dk_29 (dk_at dksX2_canSet_0 4 rfl rfl)
theorem dX2_canSet_5 : decode cX2_canSet 5 = .ok (.aload_n 0, 1) := dk_42 (dk_at dksX2_canSet_0 5 rfl rfl)
theorem dX2_canSet_6 : decode cX2_canSet 6 = .ok (.getfield 142, 3) := dk_180 0 142 (dk_at dksX2_canSet_0 6 rfl rfl)
theorem dX2_canSet_9 : decode cX2_canSet 9 = .ok (.if_icmp .ge 28, 3) := dk_162 0 28 (dk_at dksX2_canSet_0 9 rfl rfl)
theorem dX2_canSet_12 : decode cX2_canSet 12 = .ok (.iload_n 2, 1) := dk_28 (dk_at dksX2_canSet_0 12 rfl rfl)
theorem dX2_canSet_13 : decode cX2_canSet 13 = .ok (.aload_n 0, 1) := dk_42 (dk_at dksX2_canSet_0 13 rfl rfl)
theorem dX2_canSet_14 : decode cX2_canSet 14 = .ok (.iload_n 1, 1) := dk_27 (dk_at dksX2_canSet_0 14 rfl rfl)
theorem dX2_canSet_15 : decode cX2_canSet 15 = .ok (.iload_n 3, 1) := dk_29 (dk_at dksX2_canSet_0 15 rfl rfl)
theorem dX2_canSet_16 : decode cX2_canSet 16 = .ok (.invokevirtual 155, 3) := dk_182 0 155 (dk_at dksX2_canSet_0 16 rfl rfl)
theorem dX2_canSet_19 : decode cX2_canSet 19 = .ok (.ifCond .eq 9, 3) := dk_153 0 9 (dk_at dksX2_canSet_0 19 rfl rfl)
theorem dX2_canSet_22 : decode cX2_canSet 22 = .ok (.iconst 1, 1) := dk_4 (dk_at dksX2_canSet_0 22 rfl rfl)
theorem dX2_canSet_23 : decode cX2_canSet 23 = .ok (.iload_n 3, 1) := dk_29 (dk_at dksX2_canSet_0 23 rfl rfl)
theorem dX2_canSet_24 : decode cX2_canSet 24 = .ok (.ishl, 1) := dk_120 (dk_at dksX2_canSet_1 0 rfl rfl)
theorem dX2_canSet_25 : decode cX2_canSet 25 = .ok (.goto 4, 3) := dk_167 0 4 (dk_at dksX2_canSet_1 1 rfl rfl)
theorem dX2_canSet_28 : decode cX2_canSet 28 = .ok (.iconst 0, 1) := dk_3 (dk_at dksX2_canSet_1 4 rfl rfl)
theorem dX2_canSet_29 : decode cX2_canSet 29 = .ok (.ior, 1) := dk_128 (dk_at dksX2_canSet_1 5 rfl rfl)
theorem dX2_canSet_30 : decode cX2_canSet 30 = .ok (.istore_n 2, 1) := dk_61 (dk_at dksX2_canSet_1 6 rfl rfl)
theorem dX2_canSet_31 : decode cX2_canSet 31 = .ok (.iinc 3 1, 3) := dk_132 3 1 (dk_at dksX2_canSet_1 7 rfl rfl)
theorem dX2_canSet_34 : decode cX2_canSet 34 = .ok (.goto (-30), 3) := dk_167 255 226 (dk_at dksX2_canSet_1 10 rfl rfl)
theorem dX2_canSet_37 : decode cX2_canSet 37 = .ok (.iload_n 2, 1) := dk_28 (dk_at dksX2_canSet_1 13 rfl rfl)
theorem dX2_canSet_38 : decode cX2_canSet 38 = .ok (.ireturn, 1) := dk_172 (dk_at dksX2_canSet_1 14 rfl rfl)
abbrev cX2_bits : ByteArray := prog_11_method_4_code
def yX2_bits : MethodName := ⟨RX2, "bits", "(I)I"⟩
def dkwX2_bits_0 : List UInt8 := [3, 60, 26, 61, 28, 153, 0, 15, 132, 1, 1, 28, 28, 4, 100, 126, 61, 167, 255, 243, 27, 172]
abbrev dktX2_bits_0 : List UInt8 := dkwX2_bits_0 ++ []
theorem dksX2_bits_0 : cX2_bits.data.toList.drop 0 = dktX2_bits_0 := by decide +kernel
theorem dX2_bits_0 : decode cX2_bits 0 = .ok (.iconst 0, 1) := dk_3 (dk_at dksX2_bits_0 0 rfl rfl)
theorem dX2_bits_1 : decode cX2_bits 1 = .ok (.istore_n 1, 1) := dk_60 (dk_at dksX2_bits_0 1 rfl rfl)
theorem dX2_bits_2 : decode cX2_bits 2 = .ok (.iload_n 0, 1) := dk_26 (dk_at dksX2_bits_0 2 rfl rfl)
theorem dX2_bits_3 : decode cX2_bits 3 = .ok (.istore_n 2, 1) := dk_61 (dk_at dksX2_bits_0 3 rfl rfl)
theorem dX2_bits_4 : decode cX2_bits 4 = .ok (.iload_n 2, 1) := dk_28 (dk_at dksX2_bits_0 4 rfl rfl)
theorem dX2_bits_5 : decode cX2_bits 5 = .ok (.ifCond .eq 15, 3) := dk_153 0 15 (dk_at dksX2_bits_0 5 rfl rfl)
theorem dX2_bits_8 : decode cX2_bits 8 = .ok (.iinc 1 1, 3) := dk_132 1 1 (dk_at dksX2_bits_0 8 rfl rfl)
theorem dX2_bits_11 : decode cX2_bits 11 = .ok (.iload_n 2, 1) := dk_28 (dk_at dksX2_bits_0 11 rfl rfl)
theorem dX2_bits_12 : decode cX2_bits 12 = .ok (.iload_n 2, 1) := dk_28 (dk_at dksX2_bits_0 12 rfl rfl)
theorem dX2_bits_13 : decode cX2_bits 13 = .ok (.iconst 1, 1) := dk_4 (dk_at dksX2_bits_0 13 rfl rfl)
theorem dX2_bits_14 : decode cX2_bits 14 = .ok (.isub, 1) := dk_100 (dk_at dksX2_bits_0 14 rfl rfl)
theorem dX2_bits_15 : decode cX2_bits 15 = .ok (.iand, 1) := dk_126 (dk_at dksX2_bits_0 15 rfl rfl)
theorem dX2_bits_16 : decode cX2_bits 16 = .ok (.istore_n 2, 1) := dk_61 (dk_at dksX2_bits_0 16 rfl rfl)
theorem dX2_bits_17 : decode cX2_bits 17 = .ok (.goto (-13), 3) := dk_167 255 243 (dk_at dksX2_bits_0 17 rfl rfl)
theorem dX2_bits_20 : decode cX2_bits 20 = .ok (.iload_n 1, 1) := dk_27 (dk_at dksX2_bits_0 20 rfl rfl)
theorem dX2_bits_21 : decode cX2_bits 21 = .ok (.ireturn, 1) := dk_172 (dk_at dksX2_bits_0 21 rfl rfl)
abbrev cX2_spade : ByteArray := prog_11_method_51_code
def yX2_spade : MethodName := ⟨RX2, "spade", "(I)I"⟩
def dkwX2_spade_1 : List UInt8 := [180, 0, 76, 61, 42, 27, 181, 0, 76, 28, 172]
abbrev dktX2_spade_1 : List UInt8 := dkwX2_spade_1 ++ []
def dkwX2_spade_0 : List UInt8 := [27, 4, 16, 9, 184, 0, 83, 154, 0, 5, 2, 172, 42, 180, 0, 142, 154, 0, 6, 16, 252, 172, 42]
abbrev dktX2_spade_0 : List UInt8 := dkwX2_spade_0 ++ dktX2_spade_1
theorem dksX2_spade_0 : cX2_spade.data.toList.drop 0 = dktX2_spade_0 := by decide +kernel
theorem dksX2_spade_1 : cX2_spade.data.toList.drop 23 = dktX2_spade_1 := dk_seg dksX2_spade_0 23 rfl rfl
theorem dX2_spade_0 : decode cX2_spade 0 = .ok (.iload_n 1, 1) := dk_27 (dk_at dksX2_spade_0 0 rfl rfl)
theorem dX2_spade_1 : decode cX2_spade 1 = .ok (.iconst 1, 1) := dk_4 (dk_at dksX2_spade_0 1 rfl rfl)
theorem dX2_spade_2 : decode cX2_spade 2 = .ok (.bipush 9, 2) := dk_16 9 (dk_at dksX2_spade_0 2 rfl rfl)
theorem dX2_spade_4 : decode cX2_spade 4 = .ok (.invokestatic 83, 3) := dk_184 0 83 (dk_at dksX2_spade_0 4 rfl rfl)
theorem dX2_spade_7 : decode cX2_spade 7 = .ok (.ifCond .ne 5, 3) := dk_154 0 5 (dk_at dksX2_spade_0 7 rfl rfl)
theorem dX2_spade_10 : decode cX2_spade 10 = .ok (.iconst (-1), 1) := dk_2 (dk_at dksX2_spade_0 10 rfl rfl)
theorem dX2_spade_11 : decode cX2_spade 11 = .ok (.ireturn, 1) := dk_172 (dk_at dksX2_spade_0 11 rfl rfl)
theorem dX2_spade_12 : decode cX2_spade 12 = .ok (.aload_n 0, 1) := dk_42 (dk_at dksX2_spade_0 12 rfl rfl)
theorem dX2_spade_13 : decode cX2_spade 13 = .ok (.getfield 142, 3) := dk_180 0 142 (dk_at dksX2_spade_0 13 rfl rfl)
theorem dX2_spade_16 : decode cX2_spade 16 = .ok (.ifCond .ne 6, 3) := dk_154 0 6 (dk_at dksX2_spade_0 16 rfl rfl)
theorem dX2_spade_19 : decode cX2_spade 19 = .ok (.bipush (-4), 2) := dk_16 252 (dk_at dksX2_spade_0 19 rfl rfl)
theorem dX2_spade_21 : decode cX2_spade 21 = .ok (.ireturn, 1) := dk_172 (dk_at dksX2_spade_0 21 rfl rfl)
theorem dX2_spade_22 : decode cX2_spade 22 = .ok (.aload_n 0, 1) := dk_42 (dk_at dksX2_spade_0 22 rfl rfl)
theorem dX2_spade_23 : decode cX2_spade 23 = .ok (.getfield 76, 3) := dk_180 0 76 (dk_at dksX2_spade_1 0 rfl rfl)
theorem dX2_spade_26 : decode cX2_spade 26 = .ok (.istore_n 2, 1) := dk_61 (dk_at dksX2_spade_1 3 rfl rfl)
theorem dX2_spade_27 : decode cX2_spade 27 = .ok (.aload_n 0, 1) := dk_42 (dk_at dksX2_spade_1 4 rfl rfl)
theorem dX2_spade_28 : decode cX2_spade 28 = .ok (.iload_n 1, 1) := dk_27 (dk_at dksX2_spade_1 5 rfl rfl)
theorem dX2_spade_29 : decode cX2_spade 29 = .ok (.putfield 76, 3) := dk_181 0 76 (dk_at dksX2_spade_1 6 rfl rfl)
theorem dX2_spade_32 : decode cX2_spade 32 = .ok (.iload_n 2, 1) := dk_28 (dk_at dksX2_spade_1 9 rfl rfl)
theorem dX2_spade_33 : decode cX2_spade 33 = .ok (.ireturn, 1) := dk_172 (dk_at dksX2_spade_1 10 rfl rfl)
abbrev cX2_play : ByteArray := prog_11_method_53_code
def yX2_play : MethodName := ⟨RX2, "play", "(I)I"⟩
def dkwX2_play_2 : List UInt8 := [180, 0, 39, 27, 46, 172]
abbrev dktX2_play_2 : List UInt8 := dkwX2_play_2 ++ []
def dkwX2_play_1 : List UInt8 := [180, 0, 149, 16, 60, 160, 0, 6, 16, 254, 172, 42, 182, 0, 189, 42, 3, 27, 182, 0, 192, 42]
abbrev dktX2_play_1 : List UInt8 := dkwX2_play_1 ++ dktX2_play_2
def dkwX2_play_0 : List UInt8 := [42, 27, 182, 0, 174, 154, 0, 5, 2, 172, 42, 3, 27, 182, 0, 155, 154, 0, 6, 16, 252, 172, 42]
abbrev dktX2_play_0 : List UInt8 := dkwX2_play_0 ++ dktX2_play_1
theorem dksX2_play_0 : cX2_play.data.toList.drop 0 = dktX2_play_0 := by decide +kernel
theorem dksX2_play_1 : cX2_play.data.toList.drop 23 = dktX2_play_1 := dk_seg dksX2_play_0 23 rfl rfl
theorem dksX2_play_2 : cX2_play.data.toList.drop 45 = dktX2_play_2 := dk_seg dksX2_play_1 22 rfl rfl
theorem dX2_play_0 : decode cX2_play 0 = .ok (.aload_n 0, 1) := dk_42 (dk_at dksX2_play_0 0 rfl rfl)
theorem dX2_play_1 : decode cX2_play 1 = .ok (.iload_n 1, 1) := dk_27 (dk_at dksX2_play_0 1 rfl rfl)
theorem dX2_play_2 : decode cX2_play 2 = .ok (.invokevirtual 174, 3) := dk_182 0 174 (dk_at dksX2_play_0 2 rfl rfl)
theorem dX2_play_5 : decode cX2_play 5 = .ok (.ifCond .ne 5, 3) := dk_154 0 5 (dk_at dksX2_play_0 5 rfl rfl)
theorem dX2_play_8 : decode cX2_play 8 = .ok (.iconst (-1), 1) := dk_2 (dk_at dksX2_play_0 8 rfl rfl)
theorem dX2_play_9 : decode cX2_play 9 = .ok (.ireturn, 1) := dk_172 (dk_at dksX2_play_0 9 rfl rfl)
theorem dX2_play_10 : decode cX2_play 10 = .ok (.aload_n 0, 1) := dk_42 (dk_at dksX2_play_0 10 rfl rfl)
theorem dX2_play_11 : decode cX2_play 11 = .ok (.iconst 0, 1) := dk_3 (dk_at dksX2_play_0 11 rfl rfl)
theorem dX2_play_12 : decode cX2_play 12 = .ok (.iload_n 1, 1) := dk_27 (dk_at dksX2_play_0 12 rfl rfl)
theorem dX2_play_13 : decode cX2_play 13 = .ok (.invokevirtual 155, 3) := dk_182 0 155 (dk_at dksX2_play_0 13 rfl rfl)
theorem dX2_play_16 : decode cX2_play 16 = .ok (.ifCond .ne 6, 3) := dk_154 0 6 (dk_at dksX2_play_0 16 rfl rfl)
theorem dX2_play_19 : decode cX2_play 19 = .ok (.bipush (-4), 2) := dk_16 252 (dk_at dksX2_play_0 19 rfl rfl)
theorem dX2_play_21 : decode cX2_play 21 = .ok (.ireturn, 1) := dk_172 (dk_at dksX2_play_0 21 rfl rfl)
theorem dX2_play_22 : decode cX2_play 22 = .ok (.aload_n 0, 1) := dk_42 (dk_at dksX2_play_0 22 rfl rfl)
theorem dX2_play_23 : decode cX2_play 23 = .ok (.getfield 149, 3) := dk_180 0 149 (dk_at dksX2_play_1 0 rfl rfl)
theorem dX2_play_26 : decode cX2_play 26 = .ok (.bipush 60, 2) := dk_16 60 (dk_at dksX2_play_1 3 rfl rfl)
theorem dX2_play_28 : decode cX2_play 28 = .ok (.if_icmp .ne 6, 3) := dk_160 0 6 (dk_at dksX2_play_1 5 rfl rfl)
theorem dX2_play_31 : decode cX2_play 31 = .ok (.bipush (-2), 2) := dk_16 254 (dk_at dksX2_play_1 8 rfl rfl)
theorem dX2_play_33 : decode cX2_play 33 = .ok (.ireturn, 1) := dk_172 (dk_at dksX2_play_1 10 rfl rfl)
theorem dX2_play_34 : decode cX2_play 34 = .ok (.aload_n 0, 1) := dk_42 (dk_at dksX2_play_1 11 rfl rfl)
theorem dX2_play_35 : decode cX2_play 35 = .ok (.invokevirtual 189, 3) := dk_182 0 189 (dk_at dksX2_play_1 12 rfl rfl)
theorem dX2_play_38 : decode cX2_play 38 = .ok (.aload_n 0, 1) := dk_42 (dk_at dksX2_play_1 15 rfl rfl)
theorem dX2_play_39 : decode cX2_play 39 = .ok (.iconst 0, 1) := dk_3 (dk_at dksX2_play_1 16 rfl rfl)
theorem dX2_play_40 : decode cX2_play 40 = .ok (.iload_n 1, 1) := dk_27 (dk_at dksX2_play_1 17 rfl rfl)
theorem dX2_play_41 : decode cX2_play 41 = .ok (.invokevirtual 192, 3) := dk_182 0 192 (dk_at dksX2_play_1 18 rfl rfl)
theorem dX2_play_44 : decode cX2_play 44 = .ok (.aload_n 0, 1) := dk_42 (dk_at dksX2_play_1 21 rfl rfl)
theorem dX2_play_45 : decode cX2_play 45 = .ok (.getfield 39, 3) := dk_180 0 39 (dk_at dksX2_play_2 0 rfl rfl)
theorem dX2_play_48 : decode cX2_play 48 = .ok (.iload_n 1, 1) := dk_27 (dk_at dksX2_play_2 3 rfl rfl)
theorem dX2_play_49 : decode cX2_play 49 = .ok (.iaload, 1) := dk_46 (dk_at dksX2_play_2 4 rfl rfl)
theorem dX2_play_50 : decode cX2_play 50 = .ok (.ireturn, 1) := dk_172 (dk_at dksX2_play_2 5 rfl rfl)
abbrev cX2_remember : ByteArray := prog_11_method_52_code
def yX2_remember : MethodName := ⟨RX2, "remember", "()V"⟩
def dkwX2_remember_1 : List UInt8 := [182, 0, 152, 79, 132, 1, 1, 167, 255, 227, 42, 89, 180, 0, 149, 4, 96, 181, 0, 149, 177]
abbrev dktX2_remember_1 : List UInt8 := dkwX2_remember_1 ++ []
def dkwX2_remember_0 : List UInt8 := [3, 60, 27, 16, 9, 162, 0, 29, 42, 180, 0, 48, 16, 9, 42, 180, 0, 149, 104, 27, 96, 42, 3, 27]
abbrev dktX2_remember_0 : List UInt8 := dkwX2_remember_0 ++ dktX2_remember_1
theorem dksX2_remember_0 : cX2_remember.data.toList.drop 0 = dktX2_remember_0 := by decide +kernel
theorem dksX2_remember_1 : cX2_remember.data.toList.drop 24 = dktX2_remember_1 := dk_seg dksX2_remember_0 24 rfl rfl
theorem dX2_remember_0 : decode cX2_remember 0 = .ok (.iconst 0, 1) := dk_3 (dk_at dksX2_remember_0 0 rfl rfl)
theorem dX2_remember_1 : decode cX2_remember 1 = .ok (.istore_n 1, 1) := dk_60 (dk_at dksX2_remember_0 1 rfl rfl)
theorem dX2_remember_2 : decode cX2_remember 2 = .ok (.iload_n 1, 1) := dk_27 (dk_at dksX2_remember_0 2 rfl rfl)
theorem dX2_remember_3 : decode cX2_remember 3 = .ok (.bipush 9, 2) := dk_16 9 (dk_at dksX2_remember_0 3 rfl rfl)
theorem dX2_remember_5 : decode cX2_remember 5 = .ok (.if_icmp .ge 29, 3) := dk_162 0 29 (dk_at dksX2_remember_0 5 rfl rfl)
theorem dX2_remember_8 : decode cX2_remember 8 = .ok (.aload_n 0, 1) := dk_42 (dk_at dksX2_remember_0 8 rfl rfl)
theorem dX2_remember_9 : decode cX2_remember 9 = .ok (.getfield 48, 3) := dk_180 0 48 (dk_at dksX2_remember_0 9 rfl rfl)
theorem dX2_remember_12 : decode cX2_remember 12 = .ok (.bipush 9, 2) := dk_16 9 (dk_at dksX2_remember_0 12 rfl rfl)
theorem dX2_remember_14 : decode cX2_remember 14 = .ok (.aload_n 0, 1) := dk_42 (dk_at dksX2_remember_0 14 rfl rfl)
theorem dX2_remember_15 : decode cX2_remember 15 = .ok (.getfield 149, 3) := dk_180 0 149 (dk_at dksX2_remember_0 15 rfl rfl)
theorem dX2_remember_18 : decode cX2_remember 18 = .ok (.imul, 1) := dk_104 (dk_at dksX2_remember_0 18 rfl rfl)
theorem dX2_remember_19 : decode cX2_remember 19 = .ok (.iload_n 1, 1) := dk_27 (dk_at dksX2_remember_0 19 rfl rfl)
theorem dX2_remember_20 : decode cX2_remember 20 = .ok (.iadd, 1) := dk_96 (dk_at dksX2_remember_0 20 rfl rfl)
theorem dX2_remember_21 : decode cX2_remember 21 = .ok (.aload_n 0, 1) := dk_42 (dk_at dksX2_remember_0 21 rfl rfl)
theorem dX2_remember_22 : decode cX2_remember 22 = .ok (.iconst 0, 1) := dk_3 (dk_at dksX2_remember_0 22 rfl rfl)
theorem dX2_remember_23 : decode cX2_remember 23 = .ok (.iload_n 1, 1) := dk_27 (dk_at dksX2_remember_0 23 rfl rfl)
theorem dX2_remember_24 : decode cX2_remember 24 = .ok (.invokevirtual 152, 3) := dk_182 0 152 (dk_at dksX2_remember_1 0 rfl rfl)
theorem dX2_remember_27 : decode cX2_remember 27 = .ok (.iastore, 1) := dk_79 (dk_at dksX2_remember_1 3 rfl rfl)
theorem dX2_remember_28 : decode cX2_remember 28 = .ok (.iinc 1 1, 3) := dk_132 1 1 (dk_at dksX2_remember_1 4 rfl rfl)
theorem dX2_remember_31 : decode cX2_remember 31 = .ok (.goto (-29), 3) := dk_167 255 227 (dk_at dksX2_remember_1 7 rfl rfl)
theorem dX2_remember_34 : decode cX2_remember 34 = .ok (.aload_n 0, 1) := dk_42 (dk_at dksX2_remember_1 10 rfl rfl)
theorem dX2_remember_35 : decode cX2_remember 35 = .ok (.dup, 1) := dk_89 (dk_at dksX2_remember_1 11 rfl rfl)
theorem dX2_remember_36 : decode cX2_remember 36 = .ok (.getfield 149, 3) := dk_180 0 149 (dk_at dksX2_remember_1 12 rfl rfl)
theorem dX2_remember_39 : decode cX2_remember 39 = .ok (.iconst 1, 1) := dk_4 (dk_at dksX2_remember_1 15 rfl rfl)
theorem dX2_remember_40 : decode cX2_remember 40 = .ok (.iadd, 1) := dk_96 (dk_at dksX2_remember_1 16 rfl rfl)
theorem dX2_remember_41 : decode cX2_remember 41 = .ok (.putfield 149, 3) := dk_181 0 149 (dk_at dksX2_remember_1 17 rfl rfl)
theorem dX2_remember_44 : decode cX2_remember 44 = .ok (.return_, 1) := dk_177 (dk_at dksX2_remember_1 20 rfl rfl)
abbrev cX2_plays : ByteArray := prog_11_method_45_code
def yX2_plays : MethodName := ⟨RX2, "plays", "(II)V"⟩
def dkwX2_plays_5 : List UInt8 := [182, 0, 167, 87, 167, 0, 3, 42, 27, 16, 8, 42, 180, 0, 39, 28, 46, 182, 0, 161, 177]
abbrev dktX2_plays_5 : List UInt8 := dkwX2_plays_5 ++ []
def dkwX2_plays_4 : List UInt8 := [42, 27, 28, 42, 28, 182, 0, 171, 4, 182, 0, 167, 87, 42, 27, 28, 42, 28, 182, 0, 164, 4]
abbrev dktX2_plays_4 : List UInt8 := dkwX2_plays_4 ++ dktX2_plays_5
def dkwX2_plays_3 : List UInt8 := [5, 182, 0, 167, 87, 167, 0, 48, 42, 27, 42, 28, 182, 0, 171, 28, 4, 182, 0, 167, 87, 167, 0, 32]
abbrev dktX2_plays_3 : List UInt8 := dkwX2_plays_3 ++ dktX2_plays_4
def dkwX2_plays_2 : List UInt8 := [42, 27, 28, 42, 28, 182, 0, 164, 4, 182, 0, 167, 87, 167, 0, 64, 42, 27, 28, 42, 28, 182, 0, 171]
abbrev dktX2_plays_2 : List UInt8 := dkwX2_plays_2 ++ dktX2_plays_3
def dkwX2_plays_1 : List UInt8 := [170, 0, 0, 0, 0, 111, 0, 0, 0, 0, 0, 0, 0, 4, 0, 0, 0, 34, 0, 0, 0, 50, 0, 0, 0, 111, 0, 0, 0, 66, 0, 0, 0, 82]
abbrev dktX2_plays_1 : List UInt8 := dkwX2_plays_1 ++ dktX2_plays_2
def dkwX2_plays_0 : List UInt8 := [42, 180, 0, 33, 28, 46]
abbrev dktX2_plays_0 : List UInt8 := dkwX2_plays_0 ++ dktX2_plays_1
theorem dksX2_plays_0 : cX2_plays.data.toList.drop 0 = dktX2_plays_0 := by decide +kernel
theorem dksX2_plays_1 : cX2_plays.data.toList.drop 6 = dktX2_plays_1 := dk_seg dksX2_plays_0 6 rfl rfl
theorem dksX2_plays_2 : cX2_plays.data.toList.drop 40 = dktX2_plays_2 := dk_seg dksX2_plays_1 34 rfl rfl
theorem dksX2_plays_3 : cX2_plays.data.toList.drop 64 = dktX2_plays_3 := dk_seg dksX2_plays_2 24 rfl rfl
theorem dksX2_plays_4 : cX2_plays.data.toList.drop 88 = dktX2_plays_4 := dk_seg dksX2_plays_3 24 rfl rfl
theorem dksX2_plays_5 : cX2_plays.data.toList.drop 110 = dktX2_plays_5 := dk_seg dksX2_plays_4 22 rfl rfl
theorem dX2_plays_0 : decode cX2_plays 0 = .ok (.aload_n 0, 1) := dk_42 (dk_at dksX2_plays_0 0 rfl rfl)
theorem dX2_plays_1 : decode cX2_plays 1 = .ok (.getfield 33, 3) := dk_180 0 33 (dk_at dksX2_plays_0 1 rfl rfl)
theorem dX2_plays_4 : decode cX2_plays 4 = .ok (.iload_n 2, 1) := dk_28 (dk_at dksX2_plays_0 4 rfl rfl)
theorem dX2_plays_5 : decode cX2_plays 5 = .ok (.iaload, 1) := dk_46 (dk_at dksX2_plays_0 5 rfl rfl)
theorem dX2_plays_6 : decode cX2_plays 6 = .ok (.tableswitch 111 0 4 #[34, 50, 111, 66, 82], 34) := by decide +kernel
theorem dX2_plays_40 : decode cX2_plays 40 = .ok (.aload_n 0, 1) := dk_42 (dk_at dksX2_plays_2 0 rfl rfl)
theorem dX2_plays_41 : decode cX2_plays 41 = .ok (.iload_n 1, 1) := dk_27 (dk_at dksX2_plays_2 1 rfl rfl)
theorem dX2_plays_42 : decode cX2_plays 42 = .ok (.iload_n 2, 1) := dk_28 (dk_at dksX2_plays_2 2 rfl rfl)
theorem dX2_plays_43 : decode cX2_plays 43 = .ok (.aload_n 0, 1) := dk_42 (dk_at dksX2_plays_2 3 rfl rfl)
theorem dX2_plays_44 : decode cX2_plays 44 = .ok (.iload_n 2, 1) := dk_28 (dk_at dksX2_plays_2 4 rfl rfl)
theorem dX2_plays_45 : decode cX2_plays 45 = .ok (.invokevirtual 164, 3) := dk_182 0 164 (dk_at dksX2_plays_2 5 rfl rfl)
theorem dX2_plays_48 : decode cX2_plays 48 = .ok (.iconst 1, 1) := dk_4 (dk_at dksX2_plays_2 8 rfl rfl)
theorem dX2_plays_49 : decode cX2_plays 49 = .ok (.invokevirtual 167, 3) := dk_182 0 167 (dk_at dksX2_plays_2 9 rfl rfl)
theorem dX2_plays_52 : decode cX2_plays 52 = .ok (.pop, 1) := dk_87 (dk_at dksX2_plays_2 12 rfl rfl)
theorem dX2_plays_53 : decode cX2_plays 53 = .ok (.goto 64, 3) := dk_167 0 64 (dk_at dksX2_plays_2 13 rfl rfl)
theorem dX2_plays_56 : decode cX2_plays 56 = .ok (.aload_n 0, 1) := dk_42 (dk_at dksX2_plays_2 16 rfl rfl)
theorem dX2_plays_57 : decode cX2_plays 57 = .ok (.iload_n 1, 1) := dk_27 (dk_at dksX2_plays_2 17 rfl rfl)
theorem dX2_plays_58 : decode cX2_plays 58 = .ok (.iload_n 2, 1) := dk_28 (dk_at dksX2_plays_2 18 rfl rfl)
theorem dX2_plays_59 : decode cX2_plays 59 = .ok (.aload_n 0, 1) := dk_42 (dk_at dksX2_plays_2 19 rfl rfl)
theorem dX2_plays_60 : decode cX2_plays 60 = .ok (.iload_n 2, 1) := dk_28 (dk_at dksX2_plays_2 20 rfl rfl)
theorem dX2_plays_61 : decode cX2_plays 61 = .ok (.invokevirtual 171, 3) := dk_182 0 171 (dk_at dksX2_plays_2 21 rfl rfl)
theorem dX2_plays_64 : decode cX2_plays 64 = .ok (.iconst 2, 1) := dk_5 (dk_at dksX2_plays_3 0 rfl rfl)
theorem dX2_plays_65 : decode cX2_plays 65 = .ok (.invokevirtual 167, 3) := dk_182 0 167 (dk_at dksX2_plays_3 1 rfl rfl)
theorem dX2_plays_68 : decode cX2_plays 68 = .ok (.pop, 1) := dk_87 (dk_at dksX2_plays_3 4 rfl rfl)
theorem dX2_plays_69 : decode cX2_plays 69 = .ok (.goto 48, 3) := dk_167 0 48 (dk_at dksX2_plays_3 5 rfl rfl)
theorem dX2_plays_72 : decode cX2_plays 72 = .ok (.aload_n 0, 1) := dk_42 (dk_at dksX2_plays_3 8 rfl rfl)
theorem dX2_plays_73 : decode cX2_plays 73 = .ok (.iload_n 1, 1) := dk_27 (dk_at dksX2_plays_3 9 rfl rfl)
theorem dX2_plays_74 : decode cX2_plays 74 = .ok (.aload_n 0, 1) := dk_42 (dk_at dksX2_plays_3 10 rfl rfl)
theorem dX2_plays_75 : decode cX2_plays 75 = .ok (.iload_n 2, 1) := dk_28 (dk_at dksX2_plays_3 11 rfl rfl)
theorem dX2_plays_76 : decode cX2_plays 76 = .ok (.invokevirtual 171, 3) := dk_182 0 171 (dk_at dksX2_plays_3 12 rfl rfl)
theorem dX2_plays_79 : decode cX2_plays 79 = .ok (.iload_n 2, 1) := dk_28 (dk_at dksX2_plays_3 15 rfl rfl)
theorem dX2_plays_80 : decode cX2_plays 80 = .ok (.iconst 1, 1) := dk_4 (dk_at dksX2_plays_3 16 rfl rfl)
theorem dX2_plays_81 : decode cX2_plays 81 = .ok (.invokevirtual 167, 3) := dk_182 0 167 (dk_at dksX2_plays_3 17 rfl rfl)
theorem dX2_plays_84 : decode cX2_plays 84 = .ok (.pop, 1) := dk_87 (dk_at dksX2_plays_3 20 rfl rfl)
theorem dX2_plays_85 : decode cX2_plays 85 = .ok (.goto 32, 3) := dk_167 0 32 (dk_at dksX2_plays_3 21 rfl rfl)
theorem dX2_plays_88 : decode cX2_plays 88 = .ok (.aload_n 0, 1) := dk_42 (dk_at dksX2_plays_4 0 rfl rfl)
theorem dX2_plays_89 : decode cX2_plays 89 = .ok (.iload_n 1, 1) := dk_27 (dk_at dksX2_plays_4 1 rfl rfl)
theorem dX2_plays_90 : decode cX2_plays 90 = .ok (.iload_n 2, 1) := dk_28 (dk_at dksX2_plays_4 2 rfl rfl)
theorem dX2_plays_91 : decode cX2_plays 91 = .ok (.aload_n 0, 1) := dk_42 (dk_at dksX2_plays_4 3 rfl rfl)
theorem dX2_plays_92 : decode cX2_plays 92 = .ok (.iload_n 2, 1) := dk_28 (dk_at dksX2_plays_4 4 rfl rfl)
theorem dX2_plays_93 : decode cX2_plays 93 = .ok (.invokevirtual 171, 3) := dk_182 0 171 (dk_at dksX2_plays_4 5 rfl rfl)
theorem dX2_plays_96 : decode cX2_plays 96 = .ok (.iconst 1, 1) := dk_4 (dk_at dksX2_plays_4 8 rfl rfl)
theorem dX2_plays_97 : decode cX2_plays 97 = .ok (.invokevirtual 167, 3) := dk_182 0 167 (dk_at dksX2_plays_4 9 rfl rfl)
theorem dX2_plays_100 : decode cX2_plays 100 = .ok (.pop, 1) := dk_87 (dk_at dksX2_plays_4 12 rfl rfl)
theorem dX2_plays_101 : decode cX2_plays 101 = .ok (.aload_n 0, 1) := dk_42 (dk_at dksX2_plays_4 13 rfl rfl)
theorem dX2_plays_102 : decode cX2_plays 102 = .ok (.iload_n 1, 1) := dk_27 (dk_at dksX2_plays_4 14 rfl rfl)
theorem dX2_plays_103 : decode cX2_plays 103 = .ok (.iload_n 2, 1) := dk_28 (dk_at dksX2_plays_4 15 rfl rfl)
theorem dX2_plays_104 : decode cX2_plays 104 = .ok (.aload_n 0, 1) := dk_42 (dk_at dksX2_plays_4 16 rfl rfl)
theorem dX2_plays_105 : decode cX2_plays 105 = .ok (.iload_n 2, 1) := dk_28 (dk_at dksX2_plays_4 17 rfl rfl)
theorem dX2_plays_106 : decode cX2_plays 106 = .ok (.invokevirtual 164, 3) := dk_182 0 164 (dk_at dksX2_plays_4 18 rfl rfl)
theorem dX2_plays_109 : decode cX2_plays 109 = .ok (.iconst 1, 1) := dk_4 (dk_at dksX2_plays_4 21 rfl rfl)
theorem dX2_plays_110 : decode cX2_plays 110 = .ok (.invokevirtual 167, 3) := dk_182 0 167 (dk_at dksX2_plays_5 0 rfl rfl)
theorem dX2_plays_113 : decode cX2_plays 113 = .ok (.pop, 1) := dk_87 (dk_at dksX2_plays_5 3 rfl rfl)
theorem dX2_plays_114 : decode cX2_plays 114 = .ok (.goto 3, 3) := dk_167 0 3 (dk_at dksX2_plays_5 4 rfl rfl)
theorem dX2_plays_117 : decode cX2_plays 117 = .ok (.aload_n 0, 1) := dk_42 (dk_at dksX2_plays_5 7 rfl rfl)
theorem dX2_plays_118 : decode cX2_plays 118 = .ok (.iload_n 1, 1) := dk_27 (dk_at dksX2_plays_5 8 rfl rfl)
theorem dX2_plays_119 : decode cX2_plays 119 = .ok (.bipush 8, 2) := dk_16 8 (dk_at dksX2_plays_5 9 rfl rfl)
theorem dX2_plays_121 : decode cX2_plays 121 = .ok (.aload_n 0, 1) := dk_42 (dk_at dksX2_plays_5 11 rfl rfl)
theorem dX2_plays_122 : decode cX2_plays 122 = .ok (.getfield 39, 3) := dk_180 0 39 (dk_at dksX2_plays_5 12 rfl rfl)
theorem dX2_plays_125 : decode cX2_plays 125 = .ok (.iload_n 2, 1) := dk_28 (dk_at dksX2_plays_5 15 rfl rfl)
theorem dX2_plays_126 : decode cX2_plays 126 = .ok (.iaload, 1) := dk_46 (dk_at dksX2_plays_5 16 rfl rfl)
theorem dX2_plays_127 : decode cX2_plays 127 = .ok (.invokevirtual 161, 3) := dk_182 0 161 (dk_at dksX2_plays_5 17 rfl rfl)
theorem dX2_plays_130 : decode cX2_plays 130 = .ok (.return_, 1) := dk_177 (dk_at dksX2_plays_5 20 rfl rfl)
abbrev cX2_rightOf : ByteArray := prog_11_method_44_code
def yX2_rightOf : MethodName := ⟨RX2, "rightOf", "(I)I"⟩
def dkwX2_rightOf_0 : List UInt8 := [27, 42, 180, 0, 142, 4, 100, 160, 0, 8, 16, 6, 167, 0, 6, 27, 4, 96, 172]
abbrev dktX2_rightOf_0 : List UInt8 := dkwX2_rightOf_0 ++ []
theorem dksX2_rightOf_0 : cX2_rightOf.data.toList.drop 0 = dktX2_rightOf_0 := by decide +kernel
theorem dX2_rightOf_0 : decode cX2_rightOf 0 = .ok (.iload_n 1, 1) := dk_27 (dk_at dksX2_rightOf_0 0 rfl rfl)
theorem dX2_rightOf_1 : decode cX2_rightOf 1 = .ok (.aload_n 0, 1) := dk_42 (dk_at dksX2_rightOf_0 1 rfl rfl)
theorem dX2_rightOf_2 : decode cX2_rightOf 2 = .ok (.getfield 142, 3) := dk_180 0 142 (dk_at dksX2_rightOf_0 2 rfl rfl)
theorem dX2_rightOf_5 : decode cX2_rightOf 5 = .ok (.iconst 1, 1) := dk_4 (dk_at dksX2_rightOf_0 5 rfl rfl)
theorem dX2_rightOf_6 : decode cX2_rightOf 6 = .ok (.isub, 1) := dk_100 (dk_at dksX2_rightOf_0 6 rfl rfl)
theorem dX2_rightOf_7 : decode cX2_rightOf 7 = .ok (.if_icmp .ne 8, 3) := dk_160 0 8 (dk_at dksX2_rightOf_0 7 rfl rfl)
theorem dX2_rightOf_10 : decode cX2_rightOf 10 = .ok (.bipush 6, 2) := dk_16 6 (dk_at dksX2_rightOf_0 10 rfl rfl)
theorem dX2_rightOf_12 : decode cX2_rightOf 12 = .ok (.goto 6, 3) := dk_167 0 6 (dk_at dksX2_rightOf_0 12 rfl rfl)
theorem dX2_rightOf_15 : decode cX2_rightOf 15 = .ok (.iload_n 1, 1) := dk_27 (dk_at dksX2_rightOf_0 15 rfl rfl)
theorem dX2_rightOf_16 : decode cX2_rightOf 16 = .ok (.iconst 1, 1) := dk_4 (dk_at dksX2_rightOf_0 16 rfl rfl)
theorem dX2_rightOf_17 : decode cX2_rightOf 17 = .ok (.iadd, 1) := dk_96 (dk_at dksX2_rightOf_0 17 rfl rfl)
theorem dX2_rightOf_18 : decode cX2_rightOf 18 = .ok (.ireturn, 1) := dk_172 (dk_at dksX2_rightOf_0 18 rfl rfl)
abbrev cX2_moves : ByteArray := prog_11_method_42_code
def yX2_moves : MethodName := ⟨RX2, "moves", "(IIII)I"⟩
def dkwX2_moves_1 : List UInt8 := [29, 21, 5, 182, 0, 161, 21, 5, 172]
abbrev dktX2_moves_1 : List UInt8 := dkwX2_moves_1 ++ []
def dkwX2_moves_0 : List UInt8 := [21, 4, 42, 27, 28, 182, 0, 152, 184, 0, 158, 54, 5, 42, 27, 28, 21, 5, 116, 182, 0, 161, 42, 27]
abbrev dktX2_moves_0 : List UInt8 := dkwX2_moves_0 ++ dktX2_moves_1
theorem dksX2_moves_0 : cX2_moves.data.toList.drop 0 = dktX2_moves_0 := by decide +kernel
theorem dksX2_moves_1 : cX2_moves.data.toList.drop 24 = dktX2_moves_1 := dk_seg dksX2_moves_0 24 rfl rfl
theorem dX2_moves_0 : decode cX2_moves 0 = .ok (.iload 4, 2) := dk_21 4 (dk_at dksX2_moves_0 0 rfl rfl)
theorem dX2_moves_2 : decode cX2_moves 2 = .ok (.aload_n 0, 1) := dk_42 (dk_at dksX2_moves_0 2 rfl rfl)
theorem dX2_moves_3 : decode cX2_moves 3 = .ok (.iload_n 1, 1) := dk_27 (dk_at dksX2_moves_0 3 rfl rfl)
theorem dX2_moves_4 : decode cX2_moves 4 = .ok (.iload_n 2, 1) := dk_28 (dk_at dksX2_moves_0 4 rfl rfl)
theorem dX2_moves_5 : decode cX2_moves 5 = .ok (.invokevirtual 152, 3) := dk_182 0 152 (dk_at dksX2_moves_0 5 rfl rfl)
theorem dX2_moves_8 : decode cX2_moves 8 = .ok (.invokestatic 158, 3) := dk_184 0 158 (dk_at dksX2_moves_0 8 rfl rfl)
theorem dX2_moves_11 : decode cX2_moves 11 = .ok (.istore 5, 2) := dk_54 5 (dk_at dksX2_moves_0 11 rfl rfl)
theorem dX2_moves_13 : decode cX2_moves 13 = .ok (.aload_n 0, 1) := dk_42 (dk_at dksX2_moves_0 13 rfl rfl)
theorem dX2_moves_14 : decode cX2_moves 14 = .ok (.iload_n 1, 1) := dk_27 (dk_at dksX2_moves_0 14 rfl rfl)
theorem dX2_moves_15 : decode cX2_moves 15 = .ok (.iload_n 2, 1) := dk_28 (dk_at dksX2_moves_0 15 rfl rfl)
theorem dX2_moves_16 : decode cX2_moves 16 = .ok (.iload 5, 2) := dk_21 5 (dk_at dksX2_moves_0 16 rfl rfl)
theorem dX2_moves_18 : decode cX2_moves 18 = .ok (.ineg, 1) := dk_116 (dk_at dksX2_moves_0 18 rfl rfl)
theorem dX2_moves_19 : decode cX2_moves 19 = .ok (.invokevirtual 161, 3) := dk_182 0 161 (dk_at dksX2_moves_0 19 rfl rfl)
theorem dX2_moves_22 : decode cX2_moves 22 = .ok (.aload_n 0, 1) := dk_42 (dk_at dksX2_moves_0 22 rfl rfl)
theorem dX2_moves_23 : decode cX2_moves 23 = .ok (.iload_n 1, 1) := dk_27 (dk_at dksX2_moves_0 23 rfl rfl)
theorem dX2_moves_24 : decode cX2_moves 24 = .ok (.iload_n 3, 1) := dk_29 (dk_at dksX2_moves_1 0 rfl rfl)
theorem dX2_moves_25 : decode cX2_moves 25 = .ok (.iload 5, 2) := dk_21 5 (dk_at dksX2_moves_1 1 rfl rfl)
theorem dX2_moves_27 : decode cX2_moves 27 = .ok (.invokevirtual 161, 3) := dk_182 0 161 (dk_at dksX2_moves_1 3 rfl rfl)
theorem dX2_moves_30 : decode cX2_moves 30 = .ok (.iload 5, 2) := dk_21 5 (dk_at dksX2_moves_1 6 rfl rfl)
theorem dX2_moves_32 : decode cX2_moves 32 = .ok (.ireturn, 1) := dk_172 (dk_at dksX2_moves_1 8 rfl rfl)
abbrev cX2_add : ByteArray := prog_11_method_38_code
def yX2_add : MethodName := ⟨RX2, "add", "(III)V"⟩
def dkwX2_add_0 : List UInt8 := [42, 180, 0, 45, 16, 9, 27, 104, 28, 96, 92, 46, 29, 96, 79, 177]
abbrev dktX2_add_0 : List UInt8 := dkwX2_add_0 ++ []
theorem dksX2_add_0 : cX2_add.data.toList.drop 0 = dktX2_add_0 := by decide +kernel
theorem dX2_add_0 : decode cX2_add 0 = .ok (.aload_n 0, 1) := dk_42 (dk_at dksX2_add_0 0 rfl rfl)
theorem dX2_add_1 : decode cX2_add 1 = .ok (.getfield 45, 3) := dk_180 0 45 (dk_at dksX2_add_0 1 rfl rfl)
theorem dX2_add_4 : decode cX2_add 4 = .ok (.bipush 9, 2) := dk_16 9 (dk_at dksX2_add_0 4 rfl rfl)
theorem dX2_add_6 : decode cX2_add 6 = .ok (.iload_n 1, 1) := dk_27 (dk_at dksX2_add_0 6 rfl rfl)
theorem dX2_add_7 : decode cX2_add 7 = .ok (.imul, 1) := dk_104 (dk_at dksX2_add_0 7 rfl rfl)
theorem dX2_add_8 : decode cX2_add 8 = .ok (.iload_n 2, 1) := dk_28 (dk_at dksX2_add_0 8 rfl rfl)
theorem dX2_add_9 : decode cX2_add 9 = .ok (.iadd, 1) := dk_96 (dk_at dksX2_add_0 9 rfl rfl)
theorem dX2_add_10 : decode cX2_add 10 = .ok (.dup2, 1) := dk_92 (dk_at dksX2_add_0 10 rfl rfl)
theorem dX2_add_11 : decode cX2_add 11 = .ok (.iaload, 1) := dk_46 (dk_at dksX2_add_0 11 rfl rfl)
theorem dX2_add_12 : decode cX2_add 12 = .ok (.iload_n 3, 1) := dk_29 (dk_at dksX2_add_0 12 rfl rfl)
theorem dX2_add_13 : decode cX2_add 13 = .ok (.iadd, 1) := dk_96 (dk_at dksX2_add_0 13 rfl rfl)
theorem dX2_add_14 : decode cX2_add 14 = .ok (.iastore, 1) := dk_79 (dk_at dksX2_add_0 14 rfl rfl)
theorem dX2_add_15 : decode cX2_add 15 = .ok (.return_, 1) := dk_177 (dk_at dksX2_add_0 15 rfl rfl)
abbrev cX2_tide : ByteArray := prog_11_method_55_code
def yX2_tide : MethodName := ⟨RX2, "tide", "(I)I"⟩
def dkwX2_tide_1 : List UInt8 := [182, 0, 189, 42, 3, 27, 182, 0, 200, 172]
abbrev dktX2_tide_1 : List UInt8 := dkwX2_tide_1 ++ []
def dkwX2_tide_0 : List UInt8 := [27, 3, 16, 9, 184, 0, 83, 154, 0, 5, 2, 172, 42, 182, 0, 196, 61, 28, 156, 0, 5, 28, 172, 42]
abbrev dktX2_tide_0 : List UInt8 := dkwX2_tide_0 ++ dktX2_tide_1
theorem dksX2_tide_0 : cX2_tide.data.toList.drop 0 = dktX2_tide_0 := by decide +kernel
theorem dksX2_tide_1 : cX2_tide.data.toList.drop 24 = dktX2_tide_1 := dk_seg dksX2_tide_0 24 rfl rfl
theorem dX2_tide_0 : decode cX2_tide 0 = .ok (.iload_n 1, 1) := dk_27 (dk_at dksX2_tide_0 0 rfl rfl)
theorem dX2_tide_1 : decode cX2_tide 1 = .ok (.iconst 0, 1) := dk_3 (dk_at dksX2_tide_0 1 rfl rfl)
theorem dX2_tide_2 : decode cX2_tide 2 = .ok (.bipush 9, 2) := dk_16 9 (dk_at dksX2_tide_0 2 rfl rfl)
theorem dX2_tide_4 : decode cX2_tide 4 = .ok (.invokestatic 83, 3) := dk_184 0 83 (dk_at dksX2_tide_0 4 rfl rfl)
theorem dX2_tide_7 : decode cX2_tide 7 = .ok (.ifCond .ne 5, 3) := dk_154 0 5 (dk_at dksX2_tide_0 7 rfl rfl)
theorem dX2_tide_10 : decode cX2_tide 10 = .ok (.iconst (-1), 1) := dk_2 (dk_at dksX2_tide_0 10 rfl rfl)
theorem dX2_tide_11 : decode cX2_tide 11 = .ok (.ireturn, 1) := dk_172 (dk_at dksX2_tide_0 11 rfl rfl)
theorem dX2_tide_12 : decode cX2_tide 12 = .ok (.aload_n 0, 1) := dk_42 (dk_at dksX2_tide_0 12 rfl rfl)
theorem dX2_tide_13 : decode cX2_tide 13 = .ok (.invokevirtual 196, 3) := dk_182 0 196 (dk_at dksX2_tide_0 13 rfl rfl)
theorem dX2_tide_16 : decode cX2_tide 16 = .ok (.istore_n 2, 1) := dk_61 (dk_at dksX2_tide_0 16 rfl rfl)
theorem dX2_tide_17 : decode cX2_tide 17 = .ok (.iload_n 2, 1) := dk_28 (dk_at dksX2_tide_0 17 rfl rfl)
theorem dX2_tide_18 : decode cX2_tide 18 = .ok (.ifCond .ge 5, 3) := dk_156 0 5 (dk_at dksX2_tide_0 18 rfl rfl)
theorem dX2_tide_21 : decode cX2_tide 21 = .ok (.iload_n 2, 1) := dk_28 (dk_at dksX2_tide_0 21 rfl rfl)
theorem dX2_tide_22 : decode cX2_tide 22 = .ok (.ireturn, 1) := dk_172 (dk_at dksX2_tide_0 22 rfl rfl)
theorem dX2_tide_23 : decode cX2_tide 23 = .ok (.aload_n 0, 1) := dk_42 (dk_at dksX2_tide_0 23 rfl rfl)
theorem dX2_tide_24 : decode cX2_tide 24 = .ok (.invokevirtual 189, 3) := dk_182 0 189 (dk_at dksX2_tide_1 0 rfl rfl)
theorem dX2_tide_27 : decode cX2_tide 27 = .ok (.aload_n 0, 1) := dk_42 (dk_at dksX2_tide_1 3 rfl rfl)
theorem dX2_tide_28 : decode cX2_tide 28 = .ok (.iconst 0, 1) := dk_3 (dk_at dksX2_tide_1 4 rfl rfl)
theorem dX2_tide_29 : decode cX2_tide 29 = .ok (.iload_n 1, 1) := dk_27 (dk_at dksX2_tide_1 5 rfl rfl)
theorem dX2_tide_30 : decode cX2_tide 30 = .ok (.invokevirtual 200, 3) := dk_182 0 200 (dk_at dksX2_tide_1 6 rfl rfl)
theorem dX2_tide_33 : decode cX2_tide 33 = .ok (.ireturn, 1) := dk_172 (dk_at dksX2_tide_1 9 rfl rfl)
abbrev cX2_needDeed : ByteArray := prog_11_method_54_code
def yX2_needDeed : MethodName := ⟨RX2, "needDeed", "()I"⟩
def dkwX2_needDeed_1 : List UInt8 := [167, 0, 4, 3, 172]
abbrev dktX2_needDeed_1 : List UInt8 := dkwX2_needDeed_1 ++ []
def dkwX2_needDeed_0 : List UInt8 := [42, 180, 0, 142, 154, 0, 8, 16, 252, 167, 0, 18, 42, 180, 0, 149, 16, 60, 160, 0, 8, 16, 254]
abbrev dktX2_needDeed_0 : List UInt8 := dkwX2_needDeed_0 ++ dktX2_needDeed_1
theorem dksX2_needDeed_0 : cX2_needDeed.data.toList.drop 0 = dktX2_needDeed_0 := by decide +kernel
theorem dksX2_needDeed_1 : cX2_needDeed.data.toList.drop 23 = dktX2_needDeed_1 := dk_seg dksX2_needDeed_0 23 rfl rfl
theorem dX2_needDeed_0 : decode cX2_needDeed 0 = .ok (.aload_n 0, 1) := dk_42 (dk_at dksX2_needDeed_0 0 rfl rfl)
theorem dX2_needDeed_1 : decode cX2_needDeed 1 = .ok (.getfield 142, 3) := dk_180 0 142 (dk_at dksX2_needDeed_0 1 rfl rfl)
theorem dX2_needDeed_4 : decode cX2_needDeed 4 = .ok (.ifCond .ne 8, 3) := dk_154 0 8 (dk_at dksX2_needDeed_0 4 rfl rfl)
theorem dX2_needDeed_7 : decode cX2_needDeed 7 = .ok (.bipush (-4), 2) := dk_16 252 (dk_at dksX2_needDeed_0 7 rfl rfl)
theorem dX2_needDeed_9 : decode cX2_needDeed 9 = .ok (.goto 18, 3) := dk_167 0 18 (dk_at dksX2_needDeed_0 9 rfl rfl)
theorem dX2_needDeed_12 : decode cX2_needDeed 12 = .ok (.aload_n 0, 1) := dk_42 (dk_at dksX2_needDeed_0 12 rfl rfl)
theorem dX2_needDeed_13 : decode cX2_needDeed 13 = .ok (.getfield 149, 3) := dk_180 0 149 (dk_at dksX2_needDeed_0 13 rfl rfl)
theorem dX2_needDeed_16 : decode cX2_needDeed 16 = .ok (.bipush 60, 2) := dk_16 60 (dk_at dksX2_needDeed_0 16 rfl rfl)
theorem dX2_needDeed_18 : decode cX2_needDeed 18 = .ok (.if_icmp .ne 8, 3) := dk_160 0 8 (dk_at dksX2_needDeed_0 18 rfl rfl)
theorem dX2_needDeed_21 : decode cX2_needDeed 21 = .ok (.bipush (-2), 2) := dk_16 254 (dk_at dksX2_needDeed_0 21 rfl rfl)
theorem dX2_needDeed_23 : decode cX2_needDeed 23 = .ok (.goto 4, 3) := dk_167 0 4 (dk_at dksX2_needDeed_1 0 rfl rfl)
theorem dX2_needDeed_26 : decode cX2_needDeed 26 = .ok (.iconst 0, 1) := dk_3 (dk_at dksX2_needDeed_1 3 rfl rfl)
theorem dX2_needDeed_27 : decode cX2_needDeed 27 = .ok (.ireturn, 1) := dk_172 (dk_at dksX2_needDeed_1 4 rfl rfl)
abbrev cX2_tides : ByteArray := prog_11_method_46_code
def yX2_tides : MethodName := ⟨RX2, "tides", "(II)I"⟩
def dkwX2_tides_2 : List UInt8 := [29, 182, 0, 161, 29, 172]
abbrev dktX2_tides_2 : List UInt8 := dkwX2_tides_2 ++ []
def dkwX2_tides_1 : List UInt8 := [28, 21, 4, 100, 182, 0, 161, 29, 28, 21, 4, 100, 96, 62, 132, 4, 1, 167, 255, 220, 42, 27, 16, 7]
abbrev dktX2_tides_1 : List UInt8 := dkwX2_tides_1 ++ dktX2_tides_2
def dkwX2_tides_0 : List UInt8 := [3, 62, 3, 54, 4, 21, 4, 42, 180, 0, 142, 162, 0, 33, 21, 4, 28, 162, 0, 27, 42, 27, 21, 4]
abbrev dktX2_tides_0 : List UInt8 := dkwX2_tides_0 ++ dktX2_tides_1
theorem dksX2_tides_0 : cX2_tides.data.toList.drop 0 = dktX2_tides_0 := by decide +kernel
theorem dksX2_tides_1 : cX2_tides.data.toList.drop 24 = dktX2_tides_1 := dk_seg dksX2_tides_0 24 rfl rfl
theorem dksX2_tides_2 : cX2_tides.data.toList.drop 48 = dktX2_tides_2 := dk_seg dksX2_tides_1 24 rfl rfl
theorem dX2_tides_0 : decode cX2_tides 0 = .ok (.iconst 0, 1) := dk_3 (dk_at dksX2_tides_0 0 rfl rfl)
theorem dX2_tides_1 : decode cX2_tides 1 = .ok (.istore_n 3, 1) := dk_62 (dk_at dksX2_tides_0 1 rfl rfl)
theorem dX2_tides_2 : decode cX2_tides 2 = .ok (.iconst 0, 1) := dk_3 (dk_at dksX2_tides_0 2 rfl rfl)
theorem dX2_tides_3 : decode cX2_tides 3 = .ok (.istore 4, 2) := dk_54 4 (dk_at dksX2_tides_0 3 rfl rfl)
theorem dX2_tides_5 : decode cX2_tides 5 = .ok (.iload 4, 2) := dk_21 4 (dk_at dksX2_tides_0 5 rfl rfl)
theorem dX2_tides_7 : decode cX2_tides 7 = .ok (.aload_n 0, 1) := dk_42 (dk_at dksX2_tides_0 7 rfl rfl)
theorem dX2_tides_8 : decode cX2_tides 8 = .ok (.getfield 142, 3) := dk_180 0 142 (dk_at dksX2_tides_0 8 rfl rfl)
theorem dX2_tides_11 : decode cX2_tides 11 = .ok (.if_icmp .ge 33, 3) := dk_162 0 33 (dk_at dksX2_tides_0 11 rfl rfl)
theorem dX2_tides_14 : decode cX2_tides 14 = .ok (.iload 4, 2) := dk_21 4 (dk_at dksX2_tides_0 14 rfl rfl)
theorem dX2_tides_16 : decode cX2_tides 16 = .ok (.iload_n 2, 1) := dk_28 (dk_at dksX2_tides_0 16 rfl rfl)
theorem dX2_tides_17 : decode cX2_tides 17 = .ok (.if_icmp .ge 27, 3) := dk_162 0 27 (dk_at dksX2_tides_0 17 rfl rfl)
theorem dX2_tides_20 : decode cX2_tides 20 = .ok (.aload_n 0, 1) := dk_42 (dk_at dksX2_tides_0 20 rfl rfl)
theorem dX2_tides_21 : decode cX2_tides 21 = .ok (.iload_n 1, 1) := dk_27 (dk_at dksX2_tides_0 21 rfl rfl)
theorem dX2_tides_22 : decode cX2_tides 22 = .ok (.iload 4, 2) := dk_21 4 (dk_at dksX2_tides_0 22 rfl rfl)
theorem dX2_tides_24 : decode cX2_tides 24 = .ok (.iload_n 2, 1) := dk_28 (dk_at dksX2_tides_1 0 rfl rfl)
theorem dX2_tides_25 : decode cX2_tides 25 = .ok (.iload 4, 2) := dk_21 4 (dk_at dksX2_tides_1 1 rfl rfl)
theorem dX2_tides_27 : decode cX2_tides 27 = .ok (.isub, 1) := dk_100 (dk_at dksX2_tides_1 3 rfl rfl)
theorem dX2_tides_28 : decode cX2_tides 28 = .ok (.invokevirtual 161, 3) := dk_182 0 161 (dk_at dksX2_tides_1 4 rfl rfl)
theorem dX2_tides_31 : decode cX2_tides 31 = .ok (.iload_n 3, 1) := dk_29 (dk_at dksX2_tides_1 7 rfl rfl)
theorem dX2_tides_32 : decode cX2_tides 32 = .ok (.iload_n 2, 1) := dk_28 (dk_at dksX2_tides_1 8 rfl rfl)
theorem dX2_tides_33 : decode cX2_tides 33 = .ok (.iload 4, 2) := dk_21 4 (dk_at dksX2_tides_1 9 rfl rfl)
theorem dX2_tides_35 : decode cX2_tides 35 = .ok (.isub, 1) := dk_100 (dk_at dksX2_tides_1 11 rfl rfl)
theorem dX2_tides_36 : decode cX2_tides 36 = .ok (.iadd, 1) := dk_96 (dk_at dksX2_tides_1 12 rfl rfl)
theorem dX2_tides_37 : decode cX2_tides 37 = .ok (.istore_n 3, 1) := dk_62 (dk_at dksX2_tides_1 13 rfl rfl)
theorem dX2_tides_38 : decode cX2_tides 38 = .ok (.iinc 4 1, 3) := dk_132 4 1 (dk_at dksX2_tides_1 14 rfl rfl)
theorem dX2_tides_41 : decode cX2_tides 41 = .ok (.goto (-36), 3) := dk_167 255 220 (dk_at dksX2_tides_1 17 rfl rfl)
theorem dX2_tides_44 : decode cX2_tides 44 = .ok (.aload_n 0, 1) := dk_42 (dk_at dksX2_tides_1 20 rfl rfl)
theorem dX2_tides_45 : decode cX2_tides 45 = .ok (.iload_n 1, 1) := dk_27 (dk_at dksX2_tides_1 21 rfl rfl)
theorem dX2_tides_46 : decode cX2_tides 46 = .ok (.bipush 7, 2) := dk_16 7 (dk_at dksX2_tides_1 22 rfl rfl)
theorem dX2_tides_48 : decode cX2_tides 48 = .ok (.iload_n 3, 1) := dk_29 (dk_at dksX2_tides_2 0 rfl rfl)
theorem dX2_tides_49 : decode cX2_tides 49 = .ok (.invokevirtual 161, 3) := dk_182 0 161 (dk_at dksX2_tides_2 1 rfl rfl)
theorem dX2_tides_52 : decode cX2_tides 52 = .ok (.iload_n 3, 1) := dk_29 (dk_at dksX2_tides_2 4 rfl rfl)
theorem dX2_tides_53 : decode cX2_tides 53 = .ok (.ireturn, 1) := dk_172 (dk_at dksX2_tides_2 5 rfl rfl)
abbrev cX2_storm : ByteArray := prog_11_method_56_code
def yX2_storm : MethodName := ⟨RX2, "storm", "(I)I"⟩
def dkwX2_storm_1 : List UInt8 := [182, 0, 189, 42, 3, 27, 182, 0, 203, 172]
abbrev dktX2_storm_1 : List UInt8 := dkwX2_storm_1 ++ []
def dkwX2_storm_0 : List UInt8 := [27, 3, 4, 184, 0, 83, 154, 0, 5, 2, 172, 42, 182, 0, 196, 61, 28, 156, 0, 5, 28, 172, 42]
abbrev dktX2_storm_0 : List UInt8 := dkwX2_storm_0 ++ dktX2_storm_1
theorem dksX2_storm_0 : cX2_storm.data.toList.drop 0 = dktX2_storm_0 := by decide +kernel
theorem dksX2_storm_1 : cX2_storm.data.toList.drop 23 = dktX2_storm_1 := dk_seg dksX2_storm_0 23 rfl rfl
theorem dX2_storm_0 : decode cX2_storm 0 = .ok (.iload_n 1, 1) := dk_27 (dk_at dksX2_storm_0 0 rfl rfl)
theorem dX2_storm_1 : decode cX2_storm 1 = .ok (.iconst 0, 1) := dk_3 (dk_at dksX2_storm_0 1 rfl rfl)
theorem dX2_storm_2 : decode cX2_storm 2 = .ok (.iconst 1, 1) := dk_4 (dk_at dksX2_storm_0 2 rfl rfl)
theorem dX2_storm_3 : decode cX2_storm 3 = .ok (.invokestatic 83, 3) := dk_184 0 83 (dk_at dksX2_storm_0 3 rfl rfl)
theorem dX2_storm_6 : decode cX2_storm 6 = .ok (.ifCond .ne 5, 3) := dk_154 0 5 (dk_at dksX2_storm_0 6 rfl rfl)
theorem dX2_storm_9 : decode cX2_storm 9 = .ok (.iconst (-1), 1) := dk_2 (dk_at dksX2_storm_0 9 rfl rfl)
theorem dX2_storm_10 : decode cX2_storm 10 = .ok (.ireturn, 1) := dk_172 (dk_at dksX2_storm_0 10 rfl rfl)
theorem dX2_storm_11 : decode cX2_storm 11 = .ok (.aload_n 0, 1) := dk_42 (dk_at dksX2_storm_0 11 rfl rfl)
theorem dX2_storm_12 : decode cX2_storm 12 = .ok (.invokevirtual 196, 3) := dk_182 0 196 (dk_at dksX2_storm_0 12 rfl rfl)
theorem dX2_storm_15 : decode cX2_storm 15 = .ok (.istore_n 2, 1) := dk_61 (dk_at dksX2_storm_0 15 rfl rfl)
theorem dX2_storm_16 : decode cX2_storm 16 = .ok (.iload_n 2, 1) := dk_28 (dk_at dksX2_storm_0 16 rfl rfl)
theorem dX2_storm_17 : decode cX2_storm 17 = .ok (.ifCond .ge 5, 3) := dk_156 0 5 (dk_at dksX2_storm_0 17 rfl rfl)
theorem dX2_storm_20 : decode cX2_storm 20 = .ok (.iload_n 2, 1) := dk_28 (dk_at dksX2_storm_0 20 rfl rfl)
theorem dX2_storm_21 : decode cX2_storm 21 = .ok (.ireturn, 1) := dk_172 (dk_at dksX2_storm_0 21 rfl rfl)
theorem dX2_storm_22 : decode cX2_storm 22 = .ok (.aload_n 0, 1) := dk_42 (dk_at dksX2_storm_0 22 rfl rfl)
theorem dX2_storm_23 : decode cX2_storm 23 = .ok (.invokevirtual 189, 3) := dk_182 0 189 (dk_at dksX2_storm_1 0 rfl rfl)
theorem dX2_storm_26 : decode cX2_storm 26 = .ok (.aload_n 0, 1) := dk_42 (dk_at dksX2_storm_1 3 rfl rfl)
theorem dX2_storm_27 : decode cX2_storm 27 = .ok (.iconst 0, 1) := dk_3 (dk_at dksX2_storm_1 4 rfl rfl)
theorem dX2_storm_28 : decode cX2_storm 28 = .ok (.iload_n 1, 1) := dk_27 (dk_at dksX2_storm_1 5 rfl rfl)
theorem dX2_storm_29 : decode cX2_storm 29 = .ok (.invokevirtual 203, 3) := dk_182 0 203 (dk_at dksX2_storm_1 6 rfl rfl)
theorem dX2_storm_32 : decode cX2_storm 32 = .ok (.ireturn, 1) := dk_172 (dk_at dksX2_storm_1 9 rfl rfl)
abbrev cX2_storms : ByteArray := prog_11_method_47_code
def yX2_storms : MethodName := ⟨RX2, "storms", "(II)I"⟩
def dkwX2_storms_4 : List UInt8 := [182, 0, 145, 132, 5, 1, 167, 255, 180, 42, 27, 16, 6, 21, 4, 182, 0, 161, 21, 4, 172]
abbrev dktX2_storms_4 : List UInt8 := dkwX2_storms_4 ++ []
def dkwX2_storms_3 : List UInt8 := [42, 27, 21, 6, 42, 21, 7, 182, 0, 174, 153, 0, 13, 42, 27, 21, 7, 182, 0, 152, 167, 0, 4, 3]
abbrev dktX2_storms_3 : List UInt8 := dkwX2_storms_3 ++ dktX2_storms_4
def dkwX2_storms_2 : List UInt8 := [4, 100, 21, 5, 100, 54, 6, 28, 154, 0, 10, 21, 6, 4, 96, 167, 0, 7, 21, 6, 4, 100, 54, 7]
abbrev dktX2_storms_2 : List UInt8 := dkwX2_storms_2 ++ dktX2_storms_3
def dkwX2_storms_1 : List UInt8 := [54, 5, 21, 5, 42, 180, 0, 142, 162, 0, 73, 28, 154, 0, 8, 21, 5, 167, 0, 12, 42, 180, 0, 142]
abbrev dktX2_storms_1 : List UInt8 := dkwX2_storms_1 ++ dktX2_storms_2
def dkwX2_storms_0 : List UInt8 := [28, 154, 0, 7, 3, 167, 0, 9, 42, 180, 0, 142, 4, 100, 62, 42, 27, 29, 182, 0, 152, 54, 4, 3]
abbrev dktX2_storms_0 : List UInt8 := dkwX2_storms_0 ++ dktX2_storms_1
theorem dksX2_storms_0 : cX2_storms.data.toList.drop 0 = dktX2_storms_0 := by decide +kernel
theorem dksX2_storms_1 : cX2_storms.data.toList.drop 24 = dktX2_storms_1 := dk_seg dksX2_storms_0 24 rfl rfl
theorem dksX2_storms_2 : cX2_storms.data.toList.drop 48 = dktX2_storms_2 := dk_seg dksX2_storms_1 24 rfl rfl
theorem dksX2_storms_3 : cX2_storms.data.toList.drop 72 = dktX2_storms_3 := dk_seg dksX2_storms_2 24 rfl rfl
theorem dksX2_storms_4 : cX2_storms.data.toList.drop 96 = dktX2_storms_4 := dk_seg dksX2_storms_3 24 rfl rfl
theorem dX2_storms_0 : decode cX2_storms 0 = .ok (.iload_n 2, 1) := dk_28 (dk_at dksX2_storms_0 0 rfl rfl)
theorem dX2_storms_1 : decode cX2_storms 1 = .ok (.ifCond .ne 7, 3) := dk_154 0 7 (dk_at dksX2_storms_0 1 rfl rfl)
theorem dX2_storms_4 : decode cX2_storms 4 = .ok (.iconst 0, 1) := dk_3 (dk_at dksX2_storms_0 4 rfl rfl)
theorem dX2_storms_5 : decode cX2_storms 5 = .ok (.goto 9, 3) := dk_167 0 9 (dk_at dksX2_storms_0 5 rfl rfl)
theorem dX2_storms_8 : decode cX2_storms 8 = .ok (.aload_n 0, 1) := dk_42 (dk_at dksX2_storms_0 8 rfl rfl)
theorem dX2_storms_9 : decode cX2_storms 9 = .ok (.getfield 142, 3) := dk_180 0 142 (dk_at dksX2_storms_0 9 rfl rfl)
theorem dX2_storms_12 : decode cX2_storms 12 = .ok (.iconst 1, 1) := dk_4 (dk_at dksX2_storms_0 12 rfl rfl)
theorem dX2_storms_13 : decode cX2_storms 13 = .ok (.isub, 1) := dk_100 (dk_at dksX2_storms_0 13 rfl rfl)
theorem dX2_storms_14 : decode cX2_storms 14 = .ok (.istore_n 3, 1) := dk_62 (dk_at dksX2_storms_0 14 rfl rfl)
theorem dX2_storms_15 : decode cX2_storms 15 = .ok (.aload_n 0, 1) := dk_42 (dk_at dksX2_storms_0 15 rfl rfl)
theorem dX2_storms_16 : decode cX2_storms 16 = .ok (.iload_n 1, 1) := dk_27 (dk_at dksX2_storms_0 16 rfl rfl)
theorem dX2_storms_17 : decode cX2_storms 17 = .ok (.iload_n 3, 1) := dk_29 (dk_at dksX2_storms_0 17 rfl rfl)
theorem dX2_storms_18 : decode cX2_storms 18 = .ok (.invokevirtual 152, 3) := dk_182 0 152 (dk_at dksX2_storms_0 18 rfl rfl)
theorem dX2_storms_21 : decode cX2_storms 21 = .ok (.istore 4, 2) := dk_54 4 (dk_at dksX2_storms_0 21 rfl rfl)
theorem dX2_storms_23 : decode cX2_storms 23 = .ok (.iconst 0, 1) := dk_3 (dk_at dksX2_storms_0 23 rfl rfl)
theorem dX2_storms_24 : decode cX2_storms 24 = .ok (.istore 5, 2) := dk_54 5 (dk_at dksX2_storms_1 0 rfl rfl)
theorem dX2_storms_26 : decode cX2_storms 26 = .ok (.iload 5, 2) := dk_21 5 (dk_at dksX2_storms_1 2 rfl rfl)
theorem dX2_storms_28 : decode cX2_storms 28 = .ok (.aload_n 0, 1) := dk_42 (dk_at dksX2_storms_1 4 rfl rfl)
theorem dX2_storms_29 : decode cX2_storms 29 = .ok (.getfield 142, 3) := dk_180 0 142 (dk_at dksX2_storms_1 5 rfl rfl)
theorem dX2_storms_32 : decode cX2_storms 32 = .ok (.if_icmp .ge 73, 3) := dk_162 0 73 (dk_at dksX2_storms_1 8 rfl rfl)
theorem dX2_storms_35 : decode cX2_storms 35 = .ok (.iload_n 2, 1) := dk_28 (dk_at dksX2_storms_1 11 rfl rfl)
theorem dX2_storms_36 : decode cX2_storms 36 = .ok (.ifCond .ne 8, 3) := dk_154 0 8 (dk_at dksX2_storms_1 12 rfl rfl)
theorem dX2_storms_39 : decode cX2_storms 39 = .ok (.iload 5, 2) := dk_21 5 (dk_at dksX2_storms_1 15 rfl rfl)
theorem dX2_storms_41 : decode cX2_storms 41 = .ok (.goto 12, 3) := dk_167 0 12 (dk_at dksX2_storms_1 17 rfl rfl)
theorem dX2_storms_44 : decode cX2_storms 44 = .ok (.aload_n 0, 1) := dk_42 (dk_at dksX2_storms_1 20 rfl rfl)
theorem dX2_storms_45 : decode cX2_storms 45 = .ok (.getfield 142, 3) := dk_180 0 142 (dk_at dksX2_storms_1 21 rfl rfl)
theorem dX2_storms_48 : decode cX2_storms 48 = .ok (.iconst 1, 1) := dk_4 (dk_at dksX2_storms_2 0 rfl rfl)
theorem dX2_storms_49 : decode cX2_storms 49 = .ok (.isub, 1) := dk_100 (dk_at dksX2_storms_2 1 rfl rfl)
theorem dX2_storms_50 : decode cX2_storms 50 = .ok (.iload 5, 2) := dk_21 5 (dk_at dksX2_storms_2 2 rfl rfl)
theorem dX2_storms_52 : decode cX2_storms 52 = .ok (.isub, 1) := dk_100 (dk_at dksX2_storms_2 4 rfl rfl)
theorem dX2_storms_53 : decode cX2_storms 53 = .ok (.istore 6, 2) := dk_54 6 (dk_at dksX2_storms_2 5 rfl rfl)
theorem dX2_storms_55 : decode cX2_storms 55 = .ok (.iload_n 2, 1) := dk_28 (dk_at dksX2_storms_2 7 rfl rfl)
theorem dX2_storms_56 : decode cX2_storms 56 = .ok (.ifCond .ne 10, 3) := dk_154 0 10 (dk_at dksX2_storms_2 8 rfl rfl)
theorem dX2_storms_59 : decode cX2_storms 59 = .ok (.iload 6, 2) := dk_21 6 (dk_at dksX2_storms_2 11 rfl rfl)
theorem dX2_storms_61 : decode cX2_storms 61 = .ok (.iconst 1, 1) := dk_4 (dk_at dksX2_storms_2 13 rfl rfl)
theorem dX2_storms_62 : decode cX2_storms 62 = .ok (.iadd, 1) := dk_96 (dk_at dksX2_storms_2 14 rfl rfl)
theorem dX2_storms_63 : decode cX2_storms 63 = .ok (.goto 7, 3) := dk_167 0 7 (dk_at dksX2_storms_2 15 rfl rfl)
theorem dX2_storms_66 : decode cX2_storms 66 = .ok (.iload 6, 2) := dk_21 6 (dk_at dksX2_storms_2 18 rfl rfl)
theorem dX2_storms_68 : decode cX2_storms 68 = .ok (.iconst 1, 1) := dk_4 (dk_at dksX2_storms_2 20 rfl rfl)
theorem dX2_storms_69 : decode cX2_storms 69 = .ok (.isub, 1) := dk_100 (dk_at dksX2_storms_2 21 rfl rfl)
theorem dX2_storms_70 : decode cX2_storms 70 = .ok (.istore 7, 2) := dk_54 7 (dk_at dksX2_storms_2 22 rfl rfl)
theorem dX2_storms_72 : decode cX2_storms 72 = .ok (.aload_n 0, 1) := dk_42 (dk_at dksX2_storms_3 0 rfl rfl)
theorem dX2_storms_73 : decode cX2_storms 73 = .ok (.iload_n 1, 1) := dk_27 (dk_at dksX2_storms_3 1 rfl rfl)
theorem dX2_storms_74 : decode cX2_storms 74 = .ok (.iload 6, 2) := dk_21 6 (dk_at dksX2_storms_3 2 rfl rfl)
theorem dX2_storms_76 : decode cX2_storms 76 = .ok (.aload_n 0, 1) := dk_42 (dk_at dksX2_storms_3 4 rfl rfl)
theorem dX2_storms_77 : decode cX2_storms 77 = .ok (.iload 7, 2) := dk_21 7 (dk_at dksX2_storms_3 5 rfl rfl)
theorem dX2_storms_79 : decode cX2_storms 79 = .ok (.invokevirtual 174, 3) := dk_182 0 174 (dk_at dksX2_storms_3 7 rfl rfl)
theorem dX2_storms_82 : decode cX2_storms 82 = .ok (.ifCond .eq 13, 3) := dk_153 0 13 (dk_at dksX2_storms_3 10 rfl rfl)
theorem dX2_storms_85 : decode cX2_storms 85 = .ok (.aload_n 0, 1) := dk_42 (dk_at dksX2_storms_3 13 rfl rfl)
theorem dX2_storms_86 : decode cX2_storms 86 = .ok (.iload_n 1, 1) := dk_27 (dk_at dksX2_storms_3 14 rfl rfl)
theorem dX2_storms_87 : decode cX2_storms 87 = .ok (.iload 7, 2) := dk_21 7 (dk_at dksX2_storms_3 15 rfl rfl)
theorem dX2_storms_89 : decode cX2_storms 89 = .ok (.invokevirtual 152, 3) := dk_182 0 152 (dk_at dksX2_storms_3 17 rfl rfl)
theorem dX2_storms_92 : decode cX2_storms 92 = .ok (.goto 4, 3) := dk_167 0 4 (dk_at dksX2_storms_3 20 rfl rfl)
theorem dX2_storms_95 : decode cX2_storms 95 = .ok (.iconst 0, 1) := dk_3 (dk_at dksX2_storms_3 23 rfl rfl)
theorem dX2_storms_96 : decode cX2_storms 96 = .ok (.invokevirtual 145, 3) := dk_182 0 145 (dk_at dksX2_storms_4 0 rfl rfl)
theorem dX2_storms_99 : decode cX2_storms 99 = .ok (.iinc 5 1, 3) := dk_132 5 1 (dk_at dksX2_storms_4 3 rfl rfl)
theorem dX2_storms_102 : decode cX2_storms 102 = .ok (.goto (-76), 3) := dk_167 255 180 (dk_at dksX2_storms_4 6 rfl rfl)
theorem dX2_storms_105 : decode cX2_storms 105 = .ok (.aload_n 0, 1) := dk_42 (dk_at dksX2_storms_4 9 rfl rfl)
theorem dX2_storms_106 : decode cX2_storms 106 = .ok (.iload_n 1, 1) := dk_27 (dk_at dksX2_storms_4 10 rfl rfl)
theorem dX2_storms_107 : decode cX2_storms 107 = .ok (.bipush 6, 2) := dk_16 6 (dk_at dksX2_storms_4 11 rfl rfl)
theorem dX2_storms_109 : decode cX2_storms 109 = .ok (.iload 4, 2) := dk_21 4 (dk_at dksX2_storms_4 13 rfl rfl)
theorem dX2_storms_111 : decode cX2_storms 111 = .ok (.invokevirtual 161, 3) := dk_182 0 161 (dk_at dksX2_storms_4 15 rfl rfl)
theorem dX2_storms_114 : decode cX2_storms 114 = .ok (.iload 4, 2) := dk_21 4 (dk_at dksX2_storms_4 18 rfl rfl)
theorem dX2_storms_116 : decode cX2_storms 116 = .ok (.ireturn, 1) := dk_172 (dk_at dksX2_storms_4 20 rfl rfl)
abbrev cX2_dig : ByteArray := prog_11_method_57_code
def yX2_dig : MethodName := ⟨RX2, "dig", "(I)I"⟩
def dkwX2_dig_1 : List UInt8 := [182, 0, 189, 42, 3, 27, 16, 6, 42, 180, 0, 76, 182, 0, 167, 172]
abbrev dktX2_dig_1 : List UInt8 := dkwX2_dig_1 ++ []
def dkwX2_dig_0 : List UInt8 := [42, 27, 182, 0, 174, 154, 0, 5, 2, 172, 42, 180, 0, 149, 16, 60, 160, 0, 6, 16, 254, 172, 42]
abbrev dktX2_dig_0 : List UInt8 := dkwX2_dig_0 ++ dktX2_dig_1
theorem dksX2_dig_0 : cX2_dig.data.toList.drop 0 = dktX2_dig_0 := by decide +kernel
theorem dksX2_dig_1 : cX2_dig.data.toList.drop 23 = dktX2_dig_1 := dk_seg dksX2_dig_0 23 rfl rfl
theorem dX2_dig_0 : decode cX2_dig 0 = .ok (.aload_n 0, 1) := dk_42 (dk_at dksX2_dig_0 0 rfl rfl)
theorem dX2_dig_1 : decode cX2_dig 1 = .ok (.iload_n 1, 1) := dk_27 (dk_at dksX2_dig_0 1 rfl rfl)
theorem dX2_dig_2 : decode cX2_dig 2 = .ok (.invokevirtual 174, 3) := dk_182 0 174 (dk_at dksX2_dig_0 2 rfl rfl)
theorem dX2_dig_5 : decode cX2_dig 5 = .ok (.ifCond .ne 5, 3) := dk_154 0 5 (dk_at dksX2_dig_0 5 rfl rfl)
theorem dX2_dig_8 : decode cX2_dig 8 = .ok (.iconst (-1), 1) := dk_2 (dk_at dksX2_dig_0 8 rfl rfl)
theorem dX2_dig_9 : decode cX2_dig 9 = .ok (.ireturn, 1) := dk_172 (dk_at dksX2_dig_0 9 rfl rfl)
theorem dX2_dig_10 : decode cX2_dig 10 = .ok (.aload_n 0, 1) := dk_42 (dk_at dksX2_dig_0 10 rfl rfl)
theorem dX2_dig_11 : decode cX2_dig 11 = .ok (.getfield 149, 3) := dk_180 0 149 (dk_at dksX2_dig_0 11 rfl rfl)
theorem dX2_dig_14 : decode cX2_dig 14 = .ok (.bipush 60, 2) := dk_16 60 (dk_at dksX2_dig_0 14 rfl rfl)
theorem dX2_dig_16 : decode cX2_dig 16 = .ok (.if_icmp .ne 6, 3) := dk_160 0 6 (dk_at dksX2_dig_0 16 rfl rfl)
theorem dX2_dig_19 : decode cX2_dig 19 = .ok (.bipush (-2), 2) := dk_16 254 (dk_at dksX2_dig_0 19 rfl rfl)
theorem dX2_dig_21 : decode cX2_dig 21 = .ok (.ireturn, 1) := dk_172 (dk_at dksX2_dig_0 21 rfl rfl)
theorem dX2_dig_22 : decode cX2_dig 22 = .ok (.aload_n 0, 1) := dk_42 (dk_at dksX2_dig_0 22 rfl rfl)
theorem dX2_dig_23 : decode cX2_dig 23 = .ok (.invokevirtual 189, 3) := dk_182 0 189 (dk_at dksX2_dig_1 0 rfl rfl)
theorem dX2_dig_26 : decode cX2_dig 26 = .ok (.aload_n 0, 1) := dk_42 (dk_at dksX2_dig_1 3 rfl rfl)
theorem dX2_dig_27 : decode cX2_dig 27 = .ok (.iconst 0, 1) := dk_3 (dk_at dksX2_dig_1 4 rfl rfl)
theorem dX2_dig_28 : decode cX2_dig 28 = .ok (.iload_n 1, 1) := dk_27 (dk_at dksX2_dig_1 5 rfl rfl)
theorem dX2_dig_29 : decode cX2_dig 29 = .ok (.bipush 6, 2) := dk_16 6 (dk_at dksX2_dig_1 6 rfl rfl)
theorem dX2_dig_31 : decode cX2_dig 31 = .ok (.aload_n 0, 1) := dk_42 (dk_at dksX2_dig_1 8 rfl rfl)
theorem dX2_dig_32 : decode cX2_dig 32 = .ok (.getfield 76, 3) := dk_180 0 76 (dk_at dksX2_dig_1 9 rfl rfl)
theorem dX2_dig_35 : decode cX2_dig 35 = .ok (.invokevirtual 167, 3) := dk_182 0 167 (dk_at dksX2_dig_1 12 rfl rfl)
theorem dX2_dig_38 : decode cX2_dig 38 = .ok (.ireturn, 1) := dk_172 (dk_at dksX2_dig_1 15 rfl rfl)
abbrev cX2_undo : ByteArray := prog_11_method_58_code
def yX2_undo : MethodName := ⟨RX2, "undo", "(I)I"⟩
def dkwX2_undo_2 : List UInt8 := [182, 0, 145, 132, 3, 1, 167, 255, 226, 42, 27, 181, 0, 149, 28, 172]
abbrev dktX2_undo_2 : List UInt8 := dkwX2_undo_2 ++ []
def dkwX2_undo_1 : List UInt8 := [16, 9, 162, 0, 30, 28, 158, 0, 26, 42, 3, 29, 42, 180, 0, 48, 16, 9, 27, 104, 29, 96, 46]
abbrev dktX2_undo_1 : List UInt8 := dkwX2_undo_1 ++ dktX2_undo_2
def dkwX2_undo_0 : List UInt8 := [27, 3, 42, 180, 0, 149, 184, 0, 83, 154, 0, 5, 2, 172, 42, 180, 0, 149, 27, 100, 61, 3, 62, 29]
abbrev dktX2_undo_0 : List UInt8 := dkwX2_undo_0 ++ dktX2_undo_1
theorem dksX2_undo_0 : cX2_undo.data.toList.drop 0 = dktX2_undo_0 := by decide +kernel
theorem dksX2_undo_1 : cX2_undo.data.toList.drop 24 = dktX2_undo_1 := dk_seg dksX2_undo_0 24 rfl rfl
theorem dksX2_undo_2 : cX2_undo.data.toList.drop 47 = dktX2_undo_2 := dk_seg dksX2_undo_1 23 rfl rfl
theorem dX2_undo_0 : decode cX2_undo 0 = .ok (.iload_n 1, 1) := dk_27 (dk_at dksX2_undo_0 0 rfl rfl)
theorem dX2_undo_1 : decode cX2_undo 1 = .ok (.iconst 0, 1) := dk_3 (dk_at dksX2_undo_0 1 rfl rfl)
theorem dX2_undo_2 : decode cX2_undo 2 = .ok (.aload_n 0, 1) := dk_42 (dk_at dksX2_undo_0 2 rfl rfl)
theorem dX2_undo_3 : decode cX2_undo 3 = .ok (.getfield 149, 3) := dk_180 0 149 (dk_at dksX2_undo_0 3 rfl rfl)
theorem dX2_undo_6 : decode cX2_undo 6 = .ok (.invokestatic 83, 3) := dk_184 0 83 (dk_at dksX2_undo_0 6 rfl rfl)
theorem dX2_undo_9 : decode cX2_undo 9 = .ok (.ifCond .ne 5, 3) := dk_154 0 5 (dk_at dksX2_undo_0 9 rfl rfl)
theorem dX2_undo_12 : decode cX2_undo 12 = .ok (.iconst (-1), 1) := dk_2 (dk_at dksX2_undo_0 12 rfl rfl)
theorem dX2_undo_13 : decode cX2_undo 13 = .ok (.ireturn, 1) := dk_172 (dk_at dksX2_undo_0 13 rfl rfl)
theorem dX2_undo_14 : decode cX2_undo 14 = .ok (.aload_n 0, 1) := dk_42 (dk_at dksX2_undo_0 14 rfl rfl)
theorem dX2_undo_15 : decode cX2_undo 15 = .ok (.getfield 149, 3) := dk_180 0 149 (dk_at dksX2_undo_0 15 rfl rfl)
theorem dX2_undo_18 : decode cX2_undo 18 = .ok (.iload_n 1, 1) := dk_27 (dk_at dksX2_undo_0 18 rfl rfl)
theorem dX2_undo_19 : decode cX2_undo 19 = .ok (.isub, 1) := dk_100 (dk_at dksX2_undo_0 19 rfl rfl)
theorem dX2_undo_20 : decode cX2_undo 20 = .ok (.istore_n 2, 1) := dk_61 (dk_at dksX2_undo_0 20 rfl rfl)
theorem dX2_undo_21 : decode cX2_undo 21 = .ok (.iconst 0, 1) := dk_3 (dk_at dksX2_undo_0 21 rfl rfl)
theorem dX2_undo_22 : decode cX2_undo 22 = .ok (.istore_n 3, 1) := dk_62 (dk_at dksX2_undo_0 22 rfl rfl)
theorem dX2_undo_23 : decode cX2_undo 23 = .ok (.iload_n 3, 1) := dk_29 (dk_at dksX2_undo_0 23 rfl rfl)
theorem dX2_undo_24 : decode cX2_undo 24 = .ok (.bipush 9, 2) := dk_16 9 (dk_at dksX2_undo_1 0 rfl rfl)
theorem dX2_undo_26 : decode cX2_undo 26 = .ok (.if_icmp .ge 30, 3) := dk_162 0 30 (dk_at dksX2_undo_1 2 rfl rfl)
theorem dX2_undo_29 : decode cX2_undo 29 = .ok (.iload_n 2, 1) := dk_28 (dk_at dksX2_undo_1 5 rfl rfl)
theorem dX2_undo_30 : decode cX2_undo 30 = .ok (.ifCond .le 26, 3) := dk_158 0 26 (dk_at dksX2_undo_1 6 rfl rfl)
theorem dX2_undo_33 : decode cX2_undo 33 = .ok (.aload_n 0, 1) := dk_42 (dk_at dksX2_undo_1 9 rfl rfl)
theorem dX2_undo_34 : decode cX2_undo 34 = .ok (.iconst 0, 1) := dk_3 (dk_at dksX2_undo_1 10 rfl rfl)
theorem dX2_undo_35 : decode cX2_undo 35 = .ok (.iload_n 3, 1) := dk_29 (dk_at dksX2_undo_1 11 rfl rfl)
theorem dX2_undo_36 : decode cX2_undo 36 = .ok (.aload_n 0, 1) := dk_42 (dk_at dksX2_undo_1 12 rfl rfl)
theorem dX2_undo_37 : decode cX2_undo 37 = .ok (.getfield 48, 3) := dk_180 0 48 (dk_at dksX2_undo_1 13 rfl rfl)
theorem dX2_undo_40 : decode cX2_undo 40 = .ok (.bipush 9, 2) := dk_16 9 (dk_at dksX2_undo_1 16 rfl rfl)
theorem dX2_undo_42 : decode cX2_undo 42 = .ok (.iload_n 1, 1) := dk_27 (dk_at dksX2_undo_1 18 rfl rfl)
theorem dX2_undo_43 : decode cX2_undo 43 = .ok (.imul, 1) := dk_104 (dk_at dksX2_undo_1 19 rfl rfl)
theorem dX2_undo_44 : decode cX2_undo 44 = .ok (.iload_n 3, 1) := dk_29 (dk_at dksX2_undo_1 20 rfl rfl)
theorem dX2_undo_45 : decode cX2_undo 45 = .ok (.iadd, 1) := dk_96 (dk_at dksX2_undo_1 21 rfl rfl)
theorem dX2_undo_46 : decode cX2_undo 46 = .ok (.iaload, 1) := dk_46 (dk_at dksX2_undo_1 22 rfl rfl)
theorem dX2_undo_47 : decode cX2_undo 47 = .ok (.invokevirtual 145, 3) := dk_182 0 145 (dk_at dksX2_undo_2 0 rfl rfl)
theorem dX2_undo_50 : decode cX2_undo 50 = .ok (.iinc 3 1, 3) := dk_132 3 1 (dk_at dksX2_undo_2 3 rfl rfl)
theorem dX2_undo_53 : decode cX2_undo 53 = .ok (.goto (-30), 3) := dk_167 255 226 (dk_at dksX2_undo_2 6 rfl rfl)
theorem dX2_undo_56 : decode cX2_undo 56 = .ok (.aload_n 0, 1) := dk_42 (dk_at dksX2_undo_2 9 rfl rfl)
theorem dX2_undo_57 : decode cX2_undo 57 = .ok (.iload_n 1, 1) := dk_27 (dk_at dksX2_undo_2 10 rfl rfl)
theorem dX2_undo_58 : decode cX2_undo 58 = .ok (.putfield 149, 3) := dk_181 0 149 (dk_at dksX2_undo_2 11 rfl rfl)
theorem dX2_undo_61 : decode cX2_undo 61 = .ok (.iload_n 2, 1) := dk_28 (dk_at dksX2_undo_2 14 rfl rfl)
theorem dX2_undo_62 : decode cX2_undo 62 = .ok (.ireturn, 1) := dk_172 (dk_at dksX2_undo_2 15 rfl rfl)
abbrev cX2_can : ByteArray := prog_11_method_59_code
def yX2_can : MethodName := ⟨RX2, "can", "()I"⟩
def dkwX2_can_0 : List UInt8 := [42, 3, 182, 0, 183, 172]
abbrev dktX2_can_0 : List UInt8 := dkwX2_can_0 ++ []
theorem dksX2_can_0 : cX2_can.data.toList.drop 0 = dktX2_can_0 := by decide +kernel
theorem dX2_can_0 : decode cX2_can 0 = .ok (.aload_n 0, 1) := dk_42 (dk_at dksX2_can_0 0 rfl rfl)
theorem dX2_can_1 : decode cX2_can 1 = .ok (.iconst 0, 1) := dk_3 (dk_at dksX2_can_0 1 rfl rfl)
theorem dX2_can_2 : decode cX2_can 2 = .ok (.invokevirtual 183, 3) := dk_182 0 183 (dk_at dksX2_can_0 2 rfl rfl)
theorem dX2_can_5 : decode cX2_can 5 = .ok (.ireturn, 1) := dk_172 (dk_at dksX2_can_0 5 rfl rfl)
abbrev cX2_keep : ByteArray := prog_11_method_60_code
def yX2_keep : MethodName := ⟨RX2, "keep", "(I)I"⟩
def dkwX2_keep_5 : List UInt8 := [42, 180, 0, 149, 172]
abbrev dktX2_keep_5 : List UInt8 := dkwX2_keep_5 ++ []
def dkwX2_keep_4 : List UInt8 := [42, 180, 0, 64, 17, 2, 28, 27, 104, 28, 96, 42, 180, 0, 48, 28, 46, 79, 132, 2, 1, 167, 255, 224]
abbrev dktX2_keep_4 : List UInt8 := dkwX2_keep_4 ++ dktX2_keep_5
def dkwX2_keep_3 : List UInt8 := [28, 182, 0, 152, 79, 132, 2, 1, 167, 255, 230, 3, 61, 28, 16, 9, 42, 180, 0, 149, 104, 162, 0, 27]
abbrev dktX2_keep_3 : List UInt8 := dkwX2_keep_3 ++ dktX2_keep_4
def dkwX2_keep_2 : List UInt8 := [180, 0, 76, 79, 3, 61, 28, 16, 9, 162, 0, 26, 42, 180, 0, 61, 16, 9, 27, 104, 28, 96, 42, 3]
abbrev dktX2_keep_2 : List UInt8 := dkwX2_keep_2 ++ dktX2_keep_3
def dkwX2_keep_1 : List UInt8 := [180, 0, 51, 27, 4, 84, 42, 180, 0, 55, 27, 42, 180, 0, 149, 79, 42, 180, 0, 58, 27, 42]
abbrev dktX2_keep_1 : List UInt8 := dkwX2_keep_1 ++ dktX2_keep_2
def dkwX2_keep_0 : List UInt8 := [27, 3, 5, 184, 0, 83, 154, 0, 5, 2, 172, 42, 180, 0, 142, 154, 0, 6, 16, 252, 172, 42]
abbrev dktX2_keep_0 : List UInt8 := dkwX2_keep_0 ++ dktX2_keep_1
theorem dksX2_keep_0 : cX2_keep.data.toList.drop 0 = dktX2_keep_0 := by decide +kernel
theorem dksX2_keep_1 : cX2_keep.data.toList.drop 22 = dktX2_keep_1 := dk_seg dksX2_keep_0 22 rfl rfl
theorem dksX2_keep_2 : cX2_keep.data.toList.drop 44 = dktX2_keep_2 := dk_seg dksX2_keep_1 22 rfl rfl
theorem dksX2_keep_3 : cX2_keep.data.toList.drop 68 = dktX2_keep_3 := dk_seg dksX2_keep_2 24 rfl rfl
theorem dksX2_keep_4 : cX2_keep.data.toList.drop 92 = dktX2_keep_4 := dk_seg dksX2_keep_3 24 rfl rfl
theorem dksX2_keep_5 : cX2_keep.data.toList.drop 116 = dktX2_keep_5 := dk_seg dksX2_keep_4 24 rfl rfl
theorem dX2_keep_0 : decode cX2_keep 0 = .ok (.iload_n 1, 1) := dk_27 (dk_at dksX2_keep_0 0 rfl rfl)
theorem dX2_keep_1 : decode cX2_keep 1 = .ok (.iconst 0, 1) := dk_3 (dk_at dksX2_keep_0 1 rfl rfl)
theorem dX2_keep_2 : decode cX2_keep 2 = .ok (.iconst 2, 1) := dk_5 (dk_at dksX2_keep_0 2 rfl rfl)
theorem dX2_keep_3 : decode cX2_keep 3 = .ok (.invokestatic 83, 3) := dk_184 0 83 (dk_at dksX2_keep_0 3 rfl rfl)
theorem dX2_keep_6 : decode cX2_keep 6 = .ok (.ifCond .ne 5, 3) := dk_154 0 5 (dk_at dksX2_keep_0 6 rfl rfl)
theorem dX2_keep_9 : decode cX2_keep 9 = .ok (.iconst (-1), 1) := dk_2 (dk_at dksX2_keep_0 9 rfl rfl)
theorem dX2_keep_10 : decode cX2_keep 10 = .ok (.ireturn, 1) := dk_172 (dk_at dksX2_keep_0 10 rfl rfl)
theorem dX2_keep_11 : decode cX2_keep 11 = .ok (.aload_n 0, 1) := dk_42 (dk_at dksX2_keep_0 11 rfl rfl)
theorem dX2_keep_12 : decode cX2_keep 12 = .ok (.getfield 142, 3) := dk_180 0 142 (dk_at dksX2_keep_0 12 rfl rfl)
theorem dX2_keep_15 : decode cX2_keep 15 = .ok (.ifCond .ne 6, 3) := dk_154 0 6 (dk_at dksX2_keep_0 15 rfl rfl)
theorem dX2_keep_18 : decode cX2_keep 18 = .ok (.bipush (-4), 2) := dk_16 252 (dk_at dksX2_keep_0 18 rfl rfl)
theorem dX2_keep_20 : decode cX2_keep 20 = .ok (.ireturn, 1) := dk_172 (dk_at dksX2_keep_0 20 rfl rfl)
theorem dX2_keep_21 : decode cX2_keep 21 = .ok (.aload_n 0, 1) := dk_42 (dk_at dksX2_keep_0 21 rfl rfl)
theorem dX2_keep_22 : decode cX2_keep 22 = .ok (.getfield 51, 3) := dk_180 0 51 (dk_at dksX2_keep_1 0 rfl rfl)
theorem dX2_keep_25 : decode cX2_keep 25 = .ok (.iload_n 1, 1) := dk_27 (dk_at dksX2_keep_1 3 rfl rfl)
theorem dX2_keep_26 : decode cX2_keep 26 = .ok (.iconst 1, 1) := dk_4 (dk_at dksX2_keep_1 4 rfl rfl)
theorem dX2_keep_27 : decode cX2_keep 27 = .ok (.bastore, 1) := dk_84 (dk_at dksX2_keep_1 5 rfl rfl)
theorem dX2_keep_28 : decode cX2_keep 28 = .ok (.aload_n 0, 1) := dk_42 (dk_at dksX2_keep_1 6 rfl rfl)
theorem dX2_keep_29 : decode cX2_keep 29 = .ok (.getfield 55, 3) := dk_180 0 55 (dk_at dksX2_keep_1 7 rfl rfl)
theorem dX2_keep_32 : decode cX2_keep 32 = .ok (.iload_n 1, 1) := dk_27 (dk_at dksX2_keep_1 10 rfl rfl)
theorem dX2_keep_33 : decode cX2_keep 33 = .ok (.aload_n 0, 1) := dk_42 (dk_at dksX2_keep_1 11 rfl rfl)
theorem dX2_keep_34 : decode cX2_keep 34 = .ok (.getfield 149, 3) := dk_180 0 149 (dk_at dksX2_keep_1 12 rfl rfl)
theorem dX2_keep_37 : decode cX2_keep 37 = .ok (.iastore, 1) := dk_79 (dk_at dksX2_keep_1 15 rfl rfl)
theorem dX2_keep_38 : decode cX2_keep 38 = .ok (.aload_n 0, 1) := dk_42 (dk_at dksX2_keep_1 16 rfl rfl)
theorem dX2_keep_39 : decode cX2_keep 39 = .ok (.getfield 58, 3) := dk_180 0 58 (dk_at dksX2_keep_1 17 rfl rfl)
theorem dX2_keep_42 : decode cX2_keep 42 = .ok (.iload_n 1, 1) := dk_27 (dk_at dksX2_keep_1 20 rfl rfl)
theorem dX2_keep_43 : decode cX2_keep 43 = .ok (.aload_n 0, 1) := dk_42 (dk_at dksX2_keep_1 21 rfl rfl)
theorem dX2_keep_44 : decode cX2_keep 44 = .ok (.getfield 76, 3) := dk_180 0 76 (dk_at dksX2_keep_2 0 rfl rfl)
theorem dX2_keep_47 : decode cX2_keep 47 = .ok (.iastore, 1) := dk_79 (dk_at dksX2_keep_2 3 rfl rfl)
theorem dX2_keep_48 : decode cX2_keep 48 = .ok (.iconst 0, 1) := dk_3 (dk_at dksX2_keep_2 4 rfl rfl)
theorem dX2_keep_49 : decode cX2_keep 49 = .ok (.istore_n 2, 1) := dk_61 (dk_at dksX2_keep_2 5 rfl rfl)
theorem dX2_keep_50 : decode cX2_keep 50 = .ok (.iload_n 2, 1) := dk_28 (dk_at dksX2_keep_2 6 rfl rfl)
theorem dX2_keep_51 : decode cX2_keep 51 = .ok (.bipush 9, 2) := dk_16 9 (dk_at dksX2_keep_2 7 rfl rfl)
theorem dX2_keep_53 : decode cX2_keep 53 = .ok (.if_icmp .ge 26, 3) := dk_162 0 26 (dk_at dksX2_keep_2 9 rfl rfl)
theorem dX2_keep_56 : decode cX2_keep 56 = .ok (.aload_n 0, 1) := dk_42 (dk_at dksX2_keep_2 12 rfl rfl)
theorem dX2_keep_57 : decode cX2_keep 57 = .ok (.getfield 61, 3) := dk_180 0 61 (dk_at dksX2_keep_2 13 rfl rfl)
theorem dX2_keep_60 : decode cX2_keep 60 = .ok (.bipush 9, 2) := dk_16 9 (dk_at dksX2_keep_2 16 rfl rfl)
theorem dX2_keep_62 : decode cX2_keep 62 = .ok (.iload_n 1, 1) := dk_27 (dk_at dksX2_keep_2 18 rfl rfl)
theorem dX2_keep_63 : decode cX2_keep 63 = .ok (.imul, 1) := dk_104 (dk_at dksX2_keep_2 19 rfl rfl)
theorem dX2_keep_64 : decode cX2_keep 64 = .ok (.iload_n 2, 1) := dk_28 (dk_at dksX2_keep_2 20 rfl rfl)
theorem dX2_keep_65 : decode cX2_keep 65 = .ok (.iadd, 1) := dk_96 (dk_at dksX2_keep_2 21 rfl rfl)
theorem dX2_keep_66 : decode cX2_keep 66 = .ok (.aload_n 0, 1) := dk_42 (dk_at dksX2_keep_2 22 rfl rfl)
theorem dX2_keep_67 : decode cX2_keep 67 = .ok (.iconst 0, 1) := dk_3 (dk_at dksX2_keep_2 23 rfl rfl)
theorem dX2_keep_68 : decode cX2_keep 68 = .ok (.iload_n 2, 1) := dk_28 (dk_at dksX2_keep_3 0 rfl rfl)
theorem dX2_keep_69 : decode cX2_keep 69 = .ok (.invokevirtual 152, 3) := dk_182 0 152 (dk_at dksX2_keep_3 1 rfl rfl)
theorem dX2_keep_72 : decode cX2_keep 72 = .ok (.iastore, 1) := dk_79 (dk_at dksX2_keep_3 4 rfl rfl)
theorem dX2_keep_73 : decode cX2_keep 73 = .ok (.iinc 2 1, 3) := dk_132 2 1 (dk_at dksX2_keep_3 5 rfl rfl)
theorem dX2_keep_76 : decode cX2_keep 76 = .ok (.goto (-26), 3) := dk_167 255 230 (dk_at dksX2_keep_3 8 rfl rfl)
theorem dX2_keep_79 : decode cX2_keep 79 = .ok (.iconst 0, 1) := dk_3 (dk_at dksX2_keep_3 11 rfl rfl)
theorem dX2_keep_80 : decode cX2_keep 80 = .ok (.istore_n 2, 1) := dk_61 (dk_at dksX2_keep_3 12 rfl rfl)
theorem dX2_keep_81 : decode cX2_keep 81 = .ok (.iload_n 2, 1) := dk_28 (dk_at dksX2_keep_3 13 rfl rfl)
theorem dX2_keep_82 : decode cX2_keep 82 = .ok (.bipush 9, 2) := dk_16 9 (dk_at dksX2_keep_3 14 rfl rfl)
theorem dX2_keep_84 : decode cX2_keep 84 = .ok (.aload_n 0, 1) := dk_42 (dk_at dksX2_keep_3 16 rfl rfl)
theorem dX2_keep_85 : decode cX2_keep 85 = .ok (.getfield 149, 3) := dk_180 0 149 (dk_at dksX2_keep_3 17 rfl rfl)
theorem dX2_keep_88 : decode cX2_keep 88 = .ok (.imul, 1) := dk_104 (dk_at dksX2_keep_3 20 rfl rfl)
theorem dX2_keep_89 : decode cX2_keep 89 = .ok (.if_icmp .ge 27, 3) := dk_162 0 27 (dk_at dksX2_keep_3 21 rfl rfl)
theorem dX2_keep_92 : decode cX2_keep 92 = .ok (.aload_n 0, 1) := dk_42 (dk_at dksX2_keep_4 0 rfl rfl)
theorem dX2_keep_93 : decode cX2_keep 93 = .ok (.getfield 64, 3) := dk_180 0 64 (dk_at dksX2_keep_4 1 rfl rfl)
theorem dX2_keep_96 : decode cX2_keep 96 = .ok (.sipush 540, 3) := dk_17 2 28 (dk_at dksX2_keep_4 4 rfl rfl)
theorem dX2_keep_99 : decode cX2_keep 99 = .ok (.iload_n 1, 1) := dk_27 (dk_at dksX2_keep_4 7 rfl rfl)
theorem dX2_keep_100 : decode cX2_keep 100 = .ok (.imul, 1) := dk_104 (dk_at dksX2_keep_4 8 rfl rfl)
theorem dX2_keep_101 : decode cX2_keep 101 = .ok (.iload_n 2, 1) := dk_28 (dk_at dksX2_keep_4 9 rfl rfl)
theorem dX2_keep_102 : decode cX2_keep 102 = .ok (.iadd, 1) := dk_96 (dk_at dksX2_keep_4 10 rfl rfl)
theorem dX2_keep_103 : decode cX2_keep 103 = .ok (.aload_n 0, 1) := dk_42 (dk_at dksX2_keep_4 11 rfl rfl)
theorem dX2_keep_104 : decode cX2_keep 104 = .ok (.getfield 48, 3) := dk_180 0 48 (dk_at dksX2_keep_4 12 rfl rfl)
theorem dX2_keep_107 : decode cX2_keep 107 = .ok (.iload_n 2, 1) := dk_28 (dk_at dksX2_keep_4 15 rfl rfl)
theorem dX2_keep_108 : decode cX2_keep 108 = .ok (.iaload, 1) := dk_46 (dk_at dksX2_keep_4 16 rfl rfl)
theorem dX2_keep_109 : decode cX2_keep 109 = .ok (.iastore, 1) := dk_79 (dk_at dksX2_keep_4 17 rfl rfl)
theorem dX2_keep_110 : decode cX2_keep 110 = .ok (.iinc 2 1, 3) := dk_132 2 1 (dk_at dksX2_keep_4 18 rfl rfl)
theorem dX2_keep_113 : decode cX2_keep 113 = .ok (.goto (-32), 3) := dk_167 255 224 (dk_at dksX2_keep_4 21 rfl rfl)
theorem dX2_keep_116 : decode cX2_keep 116 = .ok (.aload_n 0, 1) := dk_42 (dk_at dksX2_keep_5 0 rfl rfl)
theorem dX2_keep_117 : decode cX2_keep 117 = .ok (.getfield 149, 3) := dk_180 0 149 (dk_at dksX2_keep_5 1 rfl rfl)
theorem dX2_keep_120 : decode cX2_keep 120 = .ok (.ireturn, 1) := dk_172 (dk_at dksX2_keep_5 4 rfl rfl)
abbrev cX2_on : ByteArray := prog_11_method_61_code
def yX2_on : MethodName := ⟨RX2, "on", "(I)I"⟩
def dkwX2_on_5 : List UInt8 := [180, 0, 149, 172]
abbrev dktX2_on_5 : List UInt8 := dkwX2_on_5 ++ []
def dkwX2_on_4 : List UInt8 := [180, 0, 48, 28, 42, 180, 0, 64, 17, 2, 28, 27, 104, 28, 96, 46, 79, 132, 2, 1, 167, 255, 224, 42]
abbrev dktX2_on_4 : List UInt8 := dkwX2_on_4 ++ dktX2_on_5
def dkwX2_on_3 : List UInt8 := [182, 0, 145, 132, 2, 1, 167, 255, 230, 3, 61, 28, 16, 9, 42, 180, 0, 149, 104, 162, 0, 27, 42]
abbrev dktX2_on_3 : List UInt8 := dkwX2_on_3 ++ dktX2_on_4
def dkwX2_on_2 : List UInt8 := [3, 61, 28, 16, 9, 162, 0, 26, 42, 3, 28, 42, 180, 0, 61, 16, 9, 27, 104, 28, 96, 46]
abbrev dktX2_on_2 : List UInt8 := dkwX2_on_2 ++ dktX2_on_3
def dkwX2_on_1 : List UInt8 := [182, 0, 97, 172, 42, 42, 180, 0, 55, 27, 46, 181, 0, 149, 42, 42, 180, 0, 58, 27, 46, 181, 0, 76]
abbrev dktX2_on_1 : List UInt8 := dkwX2_on_1 ++ dktX2_on_2
def dkwX2_on_0 : List UInt8 := [27, 3, 5, 184, 0, 83, 154, 0, 5, 2, 172, 42, 180, 0, 51, 27, 51, 154, 0, 9, 42, 4]
abbrev dktX2_on_0 : List UInt8 := dkwX2_on_0 ++ dktX2_on_1
theorem dksX2_on_0 : cX2_on.data.toList.drop 0 = dktX2_on_0 := by decide +kernel
theorem dksX2_on_1 : cX2_on.data.toList.drop 22 = dktX2_on_1 := dk_seg dksX2_on_0 22 rfl rfl
theorem dksX2_on_2 : cX2_on.data.toList.drop 46 = dktX2_on_2 := dk_seg dksX2_on_1 24 rfl rfl
theorem dksX2_on_3 : cX2_on.data.toList.drop 68 = dktX2_on_3 := dk_seg dksX2_on_2 22 rfl rfl
theorem dksX2_on_4 : cX2_on.data.toList.drop 91 = dktX2_on_4 := dk_seg dksX2_on_3 23 rfl rfl
theorem dksX2_on_5 : cX2_on.data.toList.drop 115 = dktX2_on_5 := dk_seg dksX2_on_4 24 rfl rfl
theorem dX2_on_0 : decode cX2_on 0 = .ok (.iload_n 1, 1) := dk_27 (dk_at dksX2_on_0 0 rfl rfl)
theorem dX2_on_1 : decode cX2_on 1 = .ok (.iconst 0, 1) := dk_3 (dk_at dksX2_on_0 1 rfl rfl)
theorem dX2_on_2 : decode cX2_on 2 = .ok (.iconst 2, 1) := dk_5 (dk_at dksX2_on_0 2 rfl rfl)
theorem dX2_on_3 : decode cX2_on 3 = .ok (.invokestatic 83, 3) := dk_184 0 83 (dk_at dksX2_on_0 3 rfl rfl)
theorem dX2_on_6 : decode cX2_on 6 = .ok (.ifCond .ne 5, 3) := dk_154 0 5 (dk_at dksX2_on_0 6 rfl rfl)
theorem dX2_on_9 : decode cX2_on 9 = .ok (.iconst (-1), 1) := dk_2 (dk_at dksX2_on_0 9 rfl rfl)
theorem dX2_on_10 : decode cX2_on 10 = .ok (.ireturn, 1) := dk_172 (dk_at dksX2_on_0 10 rfl rfl)
theorem dX2_on_11 : decode cX2_on 11 = .ok (.aload_n 0, 1) := dk_42 (dk_at dksX2_on_0 11 rfl rfl)
theorem dX2_on_12 : decode cX2_on 12 = .ok (.getfield 51, 3) := dk_180 0 51 (dk_at dksX2_on_0 12 rfl rfl)
theorem dX2_on_15 : decode cX2_on 15 = .ok (.iload_n 1, 1) := dk_27 (dk_at dksX2_on_0 15 rfl rfl)
theorem dX2_on_16 : decode cX2_on 16 = .ok (.baload, 1) := dk_51 (dk_at dksX2_on_0 16 rfl rfl)
theorem dX2_on_17 : decode cX2_on 17 = .ok (.ifCond .ne 9, 3) := dk_154 0 9 (dk_at dksX2_on_0 17 rfl rfl)
theorem dX2_on_20 : decode cX2_on 20 = .ok (.aload_n 0, 1) := dk_42 (dk_at dksX2_on_0 20 rfl rfl)
theorem dX2_on_21 : decode cX2_on 21 = .ok (.iconst 1, 1) := dk_4 (dk_at dksX2_on_0 21 rfl rfl)
theorem dX2_on_22 : decode cX2_on 22 = .ok (.invokevirtual 97, 3) := dk_182 0 97 (dk_at dksX2_on_1 0 rfl rfl)
theorem dX2_on_25 : decode cX2_on 25 = .ok (.ireturn, 1) := dk_172 (dk_at dksX2_on_1 3 rfl rfl)
theorem dX2_on_26 : decode cX2_on 26 = .ok (.aload_n 0, 1) := dk_42 (dk_at dksX2_on_1 4 rfl rfl)
theorem dX2_on_27 : decode cX2_on 27 = .ok (.aload_n 0, 1) := dk_42 (dk_at dksX2_on_1 5 rfl rfl)
theorem dX2_on_28 : decode cX2_on 28 = .ok (.getfield 55, 3) := dk_180 0 55 (dk_at dksX2_on_1 6 rfl rfl)
theorem dX2_on_31 : decode cX2_on 31 = .ok (.iload_n 1, 1) := dk_27 (dk_at dksX2_on_1 9 rfl rfl)
theorem dX2_on_32 : decode cX2_on 32 = .ok (.iaload, 1) := dk_46 (dk_at dksX2_on_1 10 rfl rfl)
theorem dX2_on_33 : decode cX2_on 33 = .ok (.putfield 149, 3) := dk_181 0 149 (dk_at dksX2_on_1 11 rfl rfl)
theorem dX2_on_36 : decode cX2_on 36 = .ok (.aload_n 0, 1) := dk_42 (dk_at dksX2_on_1 14 rfl rfl)
theorem dX2_on_37 : decode cX2_on 37 = .ok (.aload_n 0, 1) := dk_42 (dk_at dksX2_on_1 15 rfl rfl)
theorem dX2_on_38 : decode cX2_on 38 = .ok (.getfield 58, 3) := dk_180 0 58 (dk_at dksX2_on_1 16 rfl rfl)
theorem dX2_on_41 : decode cX2_on 41 = .ok (.iload_n 1, 1) := dk_27 (dk_at dksX2_on_1 19 rfl rfl)
theorem dX2_on_42 : decode cX2_on 42 = .ok (.iaload, 1) := dk_46 (dk_at dksX2_on_1 20 rfl rfl)
theorem dX2_on_43 : decode cX2_on 43 = .ok (.putfield 76, 3) := dk_181 0 76 (dk_at dksX2_on_1 21 rfl rfl)
theorem dX2_on_46 : decode cX2_on 46 = .ok (.iconst 0, 1) := dk_3 (dk_at dksX2_on_2 0 rfl rfl)
theorem dX2_on_47 : decode cX2_on 47 = .ok (.istore_n 2, 1) := dk_61 (dk_at dksX2_on_2 1 rfl rfl)
theorem dX2_on_48 : decode cX2_on 48 = .ok (.iload_n 2, 1) := dk_28 (dk_at dksX2_on_2 2 rfl rfl)
theorem dX2_on_49 : decode cX2_on 49 = .ok (.bipush 9, 2) := dk_16 9 (dk_at dksX2_on_2 3 rfl rfl)
theorem dX2_on_51 : decode cX2_on 51 = .ok (.if_icmp .ge 26, 3) := dk_162 0 26 (dk_at dksX2_on_2 5 rfl rfl)
theorem dX2_on_54 : decode cX2_on 54 = .ok (.aload_n 0, 1) := dk_42 (dk_at dksX2_on_2 8 rfl rfl)
theorem dX2_on_55 : decode cX2_on 55 = .ok (.iconst 0, 1) := dk_3 (dk_at dksX2_on_2 9 rfl rfl)
theorem dX2_on_56 : decode cX2_on 56 = .ok (.iload_n 2, 1) := dk_28 (dk_at dksX2_on_2 10 rfl rfl)
theorem dX2_on_57 : decode cX2_on 57 = .ok (.aload_n 0, 1) := dk_42 (dk_at dksX2_on_2 11 rfl rfl)
theorem dX2_on_58 : decode cX2_on 58 = .ok (.getfield 61, 3) := dk_180 0 61 (dk_at dksX2_on_2 12 rfl rfl)
theorem dX2_on_61 : decode cX2_on 61 = .ok (.bipush 9, 2) := dk_16 9 (dk_at dksX2_on_2 15 rfl rfl)
theorem dX2_on_63 : decode cX2_on 63 = .ok (.iload_n 1, 1) := dk_27 (dk_at dksX2_on_2 17 rfl rfl)
theorem dX2_on_64 : decode cX2_on 64 = .ok (.imul, 1) := dk_104 (dk_at dksX2_on_2 18 rfl rfl)
theorem dX2_on_65 : decode cX2_on 65 = .ok (.iload_n 2, 1) := dk_28 (dk_at dksX2_on_2 19 rfl rfl)
theorem dX2_on_66 : decode cX2_on 66 = .ok (.iadd, 1) := dk_96 (dk_at dksX2_on_2 20 rfl rfl)
theorem dX2_on_67 : decode cX2_on 67 = .ok (.iaload, 1) := dk_46 (dk_at dksX2_on_2 21 rfl rfl)
theorem dX2_on_68 : decode cX2_on 68 = .ok (.invokevirtual 145, 3) := dk_182 0 145 (dk_at dksX2_on_3 0 rfl rfl)
theorem dX2_on_71 : decode cX2_on 71 = .ok (.iinc 2 1, 3) := dk_132 2 1 (dk_at dksX2_on_3 3 rfl rfl)
theorem dX2_on_74 : decode cX2_on 74 = .ok (.goto (-26), 3) := dk_167 255 230 (dk_at dksX2_on_3 6 rfl rfl)
theorem dX2_on_77 : decode cX2_on 77 = .ok (.iconst 0, 1) := dk_3 (dk_at dksX2_on_3 9 rfl rfl)
theorem dX2_on_78 : decode cX2_on 78 = .ok (.istore_n 2, 1) := dk_61 (dk_at dksX2_on_3 10 rfl rfl)
theorem dX2_on_79 : decode cX2_on 79 = .ok (.iload_n 2, 1) := dk_28 (dk_at dksX2_on_3 11 rfl rfl)
theorem dX2_on_80 : decode cX2_on 80 = .ok (.bipush 9, 2) := dk_16 9 (dk_at dksX2_on_3 12 rfl rfl)
theorem dX2_on_82 : decode cX2_on 82 = .ok (.aload_n 0, 1) := dk_42 (dk_at dksX2_on_3 14 rfl rfl)
theorem dX2_on_83 : decode cX2_on 83 = .ok (.getfield 149, 3) := dk_180 0 149 (dk_at dksX2_on_3 15 rfl rfl)
theorem dX2_on_86 : decode cX2_on 86 = .ok (.imul, 1) := dk_104 (dk_at dksX2_on_3 18 rfl rfl)
theorem dX2_on_87 : decode cX2_on 87 = .ok (.if_icmp .ge 27, 3) := dk_162 0 27 (dk_at dksX2_on_3 19 rfl rfl)
theorem dX2_on_90 : decode cX2_on 90 = .ok (.aload_n 0, 1) := dk_42 (dk_at dksX2_on_3 22 rfl rfl)
theorem dX2_on_91 : decode cX2_on 91 = .ok (.getfield 48, 3) := dk_180 0 48 (dk_at dksX2_on_4 0 rfl rfl)
theorem dX2_on_94 : decode cX2_on 94 = .ok (.iload_n 2, 1) := dk_28 (dk_at dksX2_on_4 3 rfl rfl)
theorem dX2_on_95 : decode cX2_on 95 = .ok (.aload_n 0, 1) := dk_42 (dk_at dksX2_on_4 4 rfl rfl)
theorem dX2_on_96 : decode cX2_on 96 = .ok (.getfield 64, 3) := dk_180 0 64 (dk_at dksX2_on_4 5 rfl rfl)
theorem dX2_on_99 : decode cX2_on 99 = .ok (.sipush 540, 3) := dk_17 2 28 (dk_at dksX2_on_4 8 rfl rfl)
theorem dX2_on_102 : decode cX2_on 102 = .ok (.iload_n 1, 1) := dk_27 (dk_at dksX2_on_4 11 rfl rfl)
theorem dX2_on_103 : decode cX2_on 103 = .ok (.imul, 1) := dk_104 (dk_at dksX2_on_4 12 rfl rfl)
theorem dX2_on_104 : decode cX2_on 104 = .ok (.iload_n 2, 1) := dk_28 (dk_at dksX2_on_4 13 rfl rfl)
theorem dX2_on_105 : decode cX2_on 105 = .ok (.iadd, 1) := dk_96 (dk_at dksX2_on_4 14 rfl rfl)
theorem dX2_on_106 : decode cX2_on 106 = .ok (.iaload, 1) := dk_46 (dk_at dksX2_on_4 15 rfl rfl)
theorem dX2_on_107 : decode cX2_on 107 = .ok (.iastore, 1) := dk_79 (dk_at dksX2_on_4 16 rfl rfl)
theorem dX2_on_108 : decode cX2_on 108 = .ok (.iinc 2 1, 3) := dk_132 2 1 (dk_at dksX2_on_4 17 rfl rfl)
theorem dX2_on_111 : decode cX2_on 111 = .ok (.goto (-32), 3) := dk_167 255 224 (dk_at dksX2_on_4 20 rfl rfl)
theorem dX2_on_114 : decode cX2_on 114 = .ok (.aload_n 0, 1) := dk_42 (dk_at dksX2_on_4 23 rfl rfl)
theorem dX2_on_115 : decode cX2_on 115 = .ok (.getfield 149, 3) := dk_180 0 149 (dk_at dksX2_on_5 0 rfl rfl)
theorem dX2_on_118 : decode cX2_on 118 = .ok (.ireturn, 1) := dk_172 (dk_at dksX2_on_5 3 rfl rfl)
abbrev cX2_judge : ByteArray := prog_11_method_65_code
def yX2_judge : MethodName := ⟨RX2, "judge", "(I)I"⟩
def dkwX2_judge_2 : List UInt8 := [182, 0, 152, 100, 29, 182, 0, 105, 172]
abbrev dktX2_judge_2 : List UInt8 := dkwX2_judge_2 ++ []
def dkwX2_judge_1 : List UInt8 := [182, 0, 212, 42, 4, 27, 182, 0, 215, 62, 42, 42, 4, 16, 6, 182, 0, 152, 42, 3, 16, 6]
abbrev dktX2_judge_1 : List UInt8 := dkwX2_judge_1 ++ dktX2_judge_2
def dkwX2_judge_0 : List UInt8 := [27, 184, 0, 93, 154, 0, 5, 2, 172, 42, 27, 182, 0, 209, 61, 28, 156, 0, 5, 28, 172, 42, 3, 4]
abbrev dktX2_judge_0 : List UInt8 := dkwX2_judge_0 ++ dktX2_judge_1
theorem dksX2_judge_0 : cX2_judge.data.toList.drop 0 = dktX2_judge_0 := by decide +kernel
theorem dksX2_judge_1 : cX2_judge.data.toList.drop 24 = dktX2_judge_1 := dk_seg dksX2_judge_0 24 rfl rfl
theorem dksX2_judge_2 : cX2_judge.data.toList.drop 46 = dktX2_judge_2 := dk_seg dksX2_judge_1 22 rfl rfl
theorem dX2_judge_0 : decode cX2_judge 0 = .ok (.iload_n 1, 1) := dk_27 (dk_at dksX2_judge_0 0 rfl rfl)
theorem dX2_judge_1 : decode cX2_judge 1 = .ok (.invokestatic 93, 3) := dk_184 0 93 (dk_at dksX2_judge_0 1 rfl rfl)
theorem dX2_judge_4 : decode cX2_judge 4 = .ok (.ifCond .ne 5, 3) := dk_154 0 5 (dk_at dksX2_judge_0 4 rfl rfl)
theorem dX2_judge_7 : decode cX2_judge 7 = .ok (.iconst (-1), 1) := dk_2 (dk_at dksX2_judge_0 7 rfl rfl)
theorem dX2_judge_8 : decode cX2_judge 8 = .ok (.ireturn, 1) := dk_172 (dk_at dksX2_judge_0 8 rfl rfl)
theorem dX2_judge_9 : decode cX2_judge 9 = .ok (.aload_n 0, 1) := dk_42 (dk_at dksX2_judge_0 9 rfl rfl)
theorem dX2_judge_10 : decode cX2_judge 10 = .ok (.iload_n 1, 1) := dk_27 (dk_at dksX2_judge_0 10 rfl rfl)
theorem dX2_judge_11 : decode cX2_judge 11 = .ok (.invokevirtual 209, 3) := dk_182 0 209 (dk_at dksX2_judge_0 11 rfl rfl)
theorem dX2_judge_14 : decode cX2_judge 14 = .ok (.istore_n 2, 1) := dk_61 (dk_at dksX2_judge_0 14 rfl rfl)
theorem dX2_judge_15 : decode cX2_judge 15 = .ok (.iload_n 2, 1) := dk_28 (dk_at dksX2_judge_0 15 rfl rfl)
theorem dX2_judge_16 : decode cX2_judge 16 = .ok (.ifCond .ge 5, 3) := dk_156 0 5 (dk_at dksX2_judge_0 16 rfl rfl)
theorem dX2_judge_19 : decode cX2_judge 19 = .ok (.iload_n 2, 1) := dk_28 (dk_at dksX2_judge_0 19 rfl rfl)
theorem dX2_judge_20 : decode cX2_judge 20 = .ok (.ireturn, 1) := dk_172 (dk_at dksX2_judge_0 20 rfl rfl)
theorem dX2_judge_21 : decode cX2_judge 21 = .ok (.aload_n 0, 1) := dk_42 (dk_at dksX2_judge_0 21 rfl rfl)
theorem dX2_judge_22 : decode cX2_judge 22 = .ok (.iconst 0, 1) := dk_3 (dk_at dksX2_judge_0 22 rfl rfl)
theorem dX2_judge_23 : decode cX2_judge 23 = .ok (.iconst 1, 1) := dk_4 (dk_at dksX2_judge_0 23 rfl rfl)
theorem dX2_judge_24 : decode cX2_judge 24 = .ok (.invokevirtual 212, 3) := dk_182 0 212 (dk_at dksX2_judge_1 0 rfl rfl)
theorem dX2_judge_27 : decode cX2_judge 27 = .ok (.aload_n 0, 1) := dk_42 (dk_at dksX2_judge_1 3 rfl rfl)
theorem dX2_judge_28 : decode cX2_judge 28 = .ok (.iconst 1, 1) := dk_4 (dk_at dksX2_judge_1 4 rfl rfl)
theorem dX2_judge_29 : decode cX2_judge 29 = .ok (.iload_n 1, 1) := dk_27 (dk_at dksX2_judge_1 5 rfl rfl)
theorem dX2_judge_30 : decode cX2_judge 30 = .ok (.invokevirtual 215, 3) := dk_182 0 215 (dk_at dksX2_judge_1 6 rfl rfl)
theorem dX2_judge_33 : decode cX2_judge 33 = .ok (.istore_n 3, 1) := dk_62 (dk_at dksX2_judge_1 9 rfl rfl)
theorem dX2_judge_34 : decode cX2_judge 34 = .ok (.aload_n 0, 1) := dk_42 (dk_at dksX2_judge_1 10 rfl rfl)
theorem dX2_judge_35 : decode cX2_judge 35 = .ok (.aload_n 0, 1) := dk_42 (dk_at dksX2_judge_1 11 rfl rfl)
theorem dX2_judge_36 : decode cX2_judge 36 = .ok (.iconst 1, 1) := dk_4 (dk_at dksX2_judge_1 12 rfl rfl)
theorem dX2_judge_37 : decode cX2_judge 37 = .ok (.bipush 6, 2) := dk_16 6 (dk_at dksX2_judge_1 13 rfl rfl)
theorem dX2_judge_39 : decode cX2_judge 39 = .ok (.invokevirtual 152, 3) := dk_182 0 152 (dk_at dksX2_judge_1 15 rfl rfl)
theorem dX2_judge_42 : decode cX2_judge 42 = .ok (.aload_n 0, 1) := dk_42 (dk_at dksX2_judge_1 18 rfl rfl)
theorem dX2_judge_43 : decode cX2_judge 43 = .ok (.iconst 0, 1) := dk_3 (dk_at dksX2_judge_1 19 rfl rfl)
theorem dX2_judge_44 : decode cX2_judge 44 = .ok (.bipush 6, 2) := dk_16 6 (dk_at dksX2_judge_1 20 rfl rfl)
theorem dX2_judge_46 : decode cX2_judge 46 = .ok (.invokevirtual 152, 3) := dk_182 0 152 (dk_at dksX2_judge_2 0 rfl rfl)
theorem dX2_judge_49 : decode cX2_judge 49 = .ok (.isub, 1) := dk_100 (dk_at dksX2_judge_2 3 rfl rfl)
theorem dX2_judge_50 : decode cX2_judge 50 = .ok (.iload_n 3, 1) := dk_29 (dk_at dksX2_judge_2 4 rfl rfl)
theorem dX2_judge_51 : decode cX2_judge 51 = .ok (.invokevirtual 105, 3) := dk_182 0 105 (dk_at dksX2_judge_2 5 rfl rfl)
theorem dX2_judge_54 : decode cX2_judge 54 = .ok (.ireturn, 1) := dk_172 (dk_at dksX2_judge_2 8 rfl rfl)
abbrev cX2_needPiece : ByteArray := prog_11_method_63_code
def yX2_needPiece : MethodName := ⟨RX2, "needPiece", "(I)I"⟩
def dkwX2_needPiece_0 : List UInt8 := [42, 180, 0, 17, 27, 46, 156, 0, 11, 42, 4, 182, 0, 97, 167, 0, 8, 42, 27, 182, 0, 206, 172]
abbrev dktX2_needPiece_0 : List UInt8 := dkwX2_needPiece_0 ++ []
theorem dksX2_needPiece_0 : cX2_needPiece.data.toList.drop 0 = dktX2_needPiece_0 := by decide +kernel
theorem dX2_needPiece_0 : decode cX2_needPiece 0 = .ok (.aload_n 0, 1) := dk_42 (dk_at dksX2_needPiece_0 0 rfl rfl)
theorem dX2_needPiece_1 : decode cX2_needPiece 1 = .ok (.getfield 17, 3) := dk_180 0 17 (dk_at dksX2_needPiece_0 1 rfl rfl)
theorem dX2_needPiece_4 : decode cX2_needPiece 4 = .ok (.iload_n 1, 1) := dk_27 (dk_at dksX2_needPiece_0 4 rfl rfl)
theorem dX2_needPiece_5 : decode cX2_needPiece 5 = .ok (.iaload, 1) := dk_46 (dk_at dksX2_needPiece_0 5 rfl rfl)
theorem dX2_needPiece_6 : decode cX2_needPiece 6 = .ok (.ifCond .ge 11, 3) := dk_156 0 11 (dk_at dksX2_needPiece_0 6 rfl rfl)
theorem dX2_needPiece_9 : decode cX2_needPiece 9 = .ok (.aload_n 0, 1) := dk_42 (dk_at dksX2_needPiece_0 9 rfl rfl)
theorem dX2_needPiece_10 : decode cX2_needPiece 10 = .ok (.iconst 1, 1) := dk_4 (dk_at dksX2_needPiece_0 10 rfl rfl)
theorem dX2_needPiece_11 : decode cX2_needPiece 11 = .ok (.invokevirtual 97, 3) := dk_182 0 97 (dk_at dksX2_needPiece_0 11 rfl rfl)
theorem dX2_needPiece_14 : decode cX2_needPiece 14 = .ok (.goto 8, 3) := dk_167 0 8 (dk_at dksX2_needPiece_0 14 rfl rfl)
theorem dX2_needPiece_17 : decode cX2_needPiece 17 = .ok (.aload_n 0, 1) := dk_42 (dk_at dksX2_needPiece_0 17 rfl rfl)
theorem dX2_needPiece_18 : decode cX2_needPiece 18 = .ok (.iload_n 1, 1) := dk_27 (dk_at dksX2_needPiece_0 18 rfl rfl)
theorem dX2_needPiece_19 : decode cX2_needPiece 19 = .ok (.invokevirtual 206, 3) := dk_182 0 206 (dk_at dksX2_needPiece_0 19 rfl rfl)
theorem dX2_needPiece_22 : decode cX2_needPiece 22 = .ok (.ireturn, 1) := dk_172 (dk_at dksX2_needPiece_0 22 rfl rfl)
abbrev cX2_pieceOf : ByteArray := prog_11_method_62_code
def yX2_pieceOf : MethodName := ⟨RX2, "pieceOf", "(I)I"⟩
def dkwX2_pieceOf_3 : List UInt8 := [6, 182, 0, 97, 172]
abbrev dktX2_pieceOf_3 : List UInt8 := dkwX2_pieceOf_3 ++ []
def dkwX2_pieceOf_2 : List UInt8 := [153, 0, 7, 4, 167, 0, 4, 3, 61, 132, 3, 1, 167, 255, 220, 28, 153, 0, 7, 3, 167, 0, 8, 42]
abbrev dktX2_pieceOf_2 : List UInt8 := dkwX2_pieceOf_2 ++ dktX2_pieceOf_3
def dkwX2_pieceOf_1 : List UInt8 := [180, 0, 17, 27, 46, 162, 0, 32, 28, 153, 0, 20, 42, 42, 27, 29, 182, 0, 101, 182, 0, 174]
abbrev dktX2_pieceOf_1 : List UInt8 := dkwX2_pieceOf_1 ++ dktX2_pieceOf_2
def dkwX2_pieceOf_0 : List UInt8 := [42, 180, 0, 17, 27, 46, 16, 12, 164, 0, 9, 42, 8, 182, 0, 97, 172, 4, 61, 3, 62, 29, 42]
abbrev dktX2_pieceOf_0 : List UInt8 := dkwX2_pieceOf_0 ++ dktX2_pieceOf_1
theorem dksX2_pieceOf_0 : cX2_pieceOf.data.toList.drop 0 = dktX2_pieceOf_0 := by decide +kernel
theorem dksX2_pieceOf_1 : cX2_pieceOf.data.toList.drop 23 = dktX2_pieceOf_1 := dk_seg dksX2_pieceOf_0 23 rfl rfl
theorem dksX2_pieceOf_2 : cX2_pieceOf.data.toList.drop 45 = dktX2_pieceOf_2 := dk_seg dksX2_pieceOf_1 22 rfl rfl
theorem dksX2_pieceOf_3 : cX2_pieceOf.data.toList.drop 69 = dktX2_pieceOf_3 := dk_seg dksX2_pieceOf_2 24 rfl rfl
theorem dX2_pieceOf_0 : decode cX2_pieceOf 0 = .ok (.aload_n 0, 1) := dk_42 (dk_at dksX2_pieceOf_0 0 rfl rfl)
theorem dX2_pieceOf_1 : decode cX2_pieceOf 1 = .ok (.getfield 17, 3) := dk_180 0 17 (dk_at dksX2_pieceOf_0 1 rfl rfl)
theorem dX2_pieceOf_4 : decode cX2_pieceOf 4 = .ok (.iload_n 1, 1) := dk_27 (dk_at dksX2_pieceOf_0 4 rfl rfl)
theorem dX2_pieceOf_5 : decode cX2_pieceOf 5 = .ok (.iaload, 1) := dk_46 (dk_at dksX2_pieceOf_0 5 rfl rfl)
theorem dX2_pieceOf_6 : decode cX2_pieceOf 6 = .ok (.bipush 12, 2) := dk_16 12 (dk_at dksX2_pieceOf_0 6 rfl rfl)
theorem dX2_pieceOf_8 : decode cX2_pieceOf 8 = .ok (.if_icmp .le 9, 3) := dk_164 0 9 (dk_at dksX2_pieceOf_0 8 rfl rfl)
theorem dX2_pieceOf_11 : decode cX2_pieceOf 11 = .ok (.aload_n 0, 1) := dk_42 (dk_at dksX2_pieceOf_0 11 rfl rfl)
theorem dX2_pieceOf_12 : decode cX2_pieceOf 12 = .ok (.iconst 5, 1) := dk_8 (dk_at dksX2_pieceOf_0 12 rfl rfl)
theorem dX2_pieceOf_13 : decode cX2_pieceOf 13 = .ok (.invokevirtual 97, 3) := dk_182 0 97 (dk_at dksX2_pieceOf_0 13 rfl rfl)
theorem dX2_pieceOf_16 : decode cX2_pieceOf 16 = .ok (.ireturn, 1) := dk_172 (dk_at dksX2_pieceOf_0 16 rfl rfl)
theorem dX2_pieceOf_17 : decode cX2_pieceOf 17 = .ok (.iconst 1, 1) := dk_4 (dk_at dksX2_pieceOf_0 17 rfl rfl)
theorem dX2_pieceOf_18 : decode cX2_pieceOf 18 = .ok (.istore_n 2, 1) := dk_61 (dk_at dksX2_pieceOf_0 18 rfl rfl)
theorem dX2_pieceOf_19 : decode cX2_pieceOf 19 = .ok (.iconst 0, 1) := dk_3 (dk_at dksX2_pieceOf_0 19 rfl rfl)
theorem dX2_pieceOf_20 : decode cX2_pieceOf 20 = .ok (.istore_n 3, 1) := dk_62 (dk_at dksX2_pieceOf_0 20 rfl rfl)
theorem dX2_pieceOf_21 : decode cX2_pieceOf 21 = .ok (.iload_n 3, 1) := dk_29 (dk_at dksX2_pieceOf_0 21 rfl rfl)
theorem dX2_pieceOf_22 : decode cX2_pieceOf 22 = .ok (.aload_n 0, 1) := dk_42 (dk_at dksX2_pieceOf_0 22 rfl rfl)
theorem dX2_pieceOf_23 : decode cX2_pieceOf 23 = .ok (.getfield 17, 3) := dk_180 0 17 (dk_at dksX2_pieceOf_1 0 rfl rfl)
theorem dX2_pieceOf_26 : decode cX2_pieceOf 26 = .ok (.iload_n 1, 1) := dk_27 (dk_at dksX2_pieceOf_1 3 rfl rfl)
theorem dX2_pieceOf_27 : decode cX2_pieceOf 27 = .ok (.iaload, 1) := dk_46 (dk_at dksX2_pieceOf_1 4 rfl rfl)
theorem dX2_pieceOf_28 : decode cX2_pieceOf 28 = .ok (.if_icmp .ge 32, 3) := dk_162 0 32 (dk_at dksX2_pieceOf_1 5 rfl rfl)
theorem dX2_pieceOf_31 : decode cX2_pieceOf 31 = .ok (.iload_n 2, 1) := dk_28 (dk_at dksX2_pieceOf_1 8 rfl rfl)
theorem dX2_pieceOf_32 : decode cX2_pieceOf 32 = .ok (.ifCond .eq 20, 3) := dk_153 0 20 (dk_at dksX2_pieceOf_1 9 rfl rfl)
theorem dX2_pieceOf_35 : decode cX2_pieceOf 35 = .ok (.aload_n 0, 1) := dk_42 (dk_at dksX2_pieceOf_1 12 rfl rfl)
theorem dX2_pieceOf_36 : decode cX2_pieceOf 36 = .ok (.aload_n 0, 1) := dk_42 (dk_at dksX2_pieceOf_1 13 rfl rfl)
theorem dX2_pieceOf_37 : decode cX2_pieceOf 37 = .ok (.iload_n 1, 1) := dk_27 (dk_at dksX2_pieceOf_1 14 rfl rfl)
theorem dX2_pieceOf_38 : decode cX2_pieceOf 38 = .ok (.iload_n 3, 1) := dk_29 (dk_at dksX2_pieceOf_1 15 rfl rfl)
theorem dX2_pieceOf_39 : decode cX2_pieceOf 39 = .ok (.invokevirtual 101, 3) := dk_182 0 101 (dk_at dksX2_pieceOf_1 16 rfl rfl)
theorem dX2_pieceOf_42 : decode cX2_pieceOf 42 = .ok (.invokevirtual 174, 3) := dk_182 0 174 (dk_at dksX2_pieceOf_1 19 rfl rfl)
theorem dX2_pieceOf_45 : decode cX2_pieceOf 45 = .ok (.ifCond .eq 7, 3) := dk_153 0 7 (dk_at dksX2_pieceOf_2 0 rfl rfl)
theorem dX2_pieceOf_48 : decode cX2_pieceOf 48 = .ok (.iconst 1, 1) := dk_4 (dk_at dksX2_pieceOf_2 3 rfl rfl)
theorem dX2_pieceOf_49 : decode cX2_pieceOf 49 = .ok (.goto 4, 3) := dk_167 0 4 (dk_at dksX2_pieceOf_2 4 rfl rfl)
theorem dX2_pieceOf_52 : decode cX2_pieceOf 52 = .ok (.iconst 0, 1) := dk_3 (dk_at dksX2_pieceOf_2 7 rfl rfl)
theorem dX2_pieceOf_53 : decode cX2_pieceOf 53 = .ok (.istore_n 2, 1) := dk_61 (dk_at dksX2_pieceOf_2 8 rfl rfl)
theorem dX2_pieceOf_54 : decode cX2_pieceOf 54 = .ok (.iinc 3 1, 3) := dk_132 3 1 (dk_at dksX2_pieceOf_2 9 rfl rfl)
theorem dX2_pieceOf_57 : decode cX2_pieceOf 57 = .ok (.goto (-36), 3) := dk_167 255 220 (dk_at dksX2_pieceOf_2 12 rfl rfl)
theorem dX2_pieceOf_60 : decode cX2_pieceOf 60 = .ok (.iload_n 2, 1) := dk_28 (dk_at dksX2_pieceOf_2 15 rfl rfl)
theorem dX2_pieceOf_61 : decode cX2_pieceOf 61 = .ok (.ifCond .eq 7, 3) := dk_153 0 7 (dk_at dksX2_pieceOf_2 16 rfl rfl)
theorem dX2_pieceOf_64 : decode cX2_pieceOf 64 = .ok (.iconst 0, 1) := dk_3 (dk_at dksX2_pieceOf_2 19 rfl rfl)
theorem dX2_pieceOf_65 : decode cX2_pieceOf 65 = .ok (.goto 8, 3) := dk_167 0 8 (dk_at dksX2_pieceOf_2 20 rfl rfl)
theorem dX2_pieceOf_68 : decode cX2_pieceOf 68 = .ok (.aload_n 0, 1) := dk_42 (dk_at dksX2_pieceOf_2 23 rfl rfl)
theorem dX2_pieceOf_69 : decode cX2_pieceOf 69 = .ok (.iconst 3, 1) := dk_6 (dk_at dksX2_pieceOf_3 0 rfl rfl)
theorem dX2_pieceOf_70 : decode cX2_pieceOf 70 = .ok (.invokevirtual 97, 3) := dk_182 0 97 (dk_at dksX2_pieceOf_3 1 rfl rfl)
theorem dX2_pieceOf_73 : decode cX2_pieceOf 73 = .ok (.ireturn, 1) := dk_172 (dk_at dksX2_pieceOf_3 4 rfl rfl)
abbrev cX2_copyTo : ByteArray := prog_11_method_39_code
def yX2_copyTo : MethodName := ⟨RX2, "copyTo", "(II)V"⟩
def dkwX2_copyTo_1 : List UInt8 := [167, 255, 235, 177]
abbrev dktX2_copyTo_1 : List UInt8 := dkwX2_copyTo_1 ++ []
def dkwX2_copyTo_0 : List UInt8 := [3, 62, 29, 16, 9, 162, 0, 21, 42, 28, 29, 42, 27, 29, 182, 0, 152, 182, 0, 145, 132, 3, 1]
abbrev dktX2_copyTo_0 : List UInt8 := dkwX2_copyTo_0 ++ dktX2_copyTo_1
theorem dksX2_copyTo_0 : cX2_copyTo.data.toList.drop 0 = dktX2_copyTo_0 := by decide +kernel
theorem dksX2_copyTo_1 : cX2_copyTo.data.toList.drop 23 = dktX2_copyTo_1 := dk_seg dksX2_copyTo_0 23 rfl rfl
theorem dX2_copyTo_0 : decode cX2_copyTo 0 = .ok (.iconst 0, 1) := dk_3 (dk_at dksX2_copyTo_0 0 rfl rfl)
theorem dX2_copyTo_1 : decode cX2_copyTo 1 = .ok (.istore_n 3, 1) := dk_62 (dk_at dksX2_copyTo_0 1 rfl rfl)
theorem dX2_copyTo_2 : decode cX2_copyTo 2 = .ok (.iload_n 3, 1) := dk_29 (dk_at dksX2_copyTo_0 2 rfl rfl)
theorem dX2_copyTo_3 : decode cX2_copyTo 3 = .ok (.bipush 9, 2) := dk_16 9 (dk_at dksX2_copyTo_0 3 rfl rfl)
theorem dX2_copyTo_5 : decode cX2_copyTo 5 = .ok (.if_icmp .ge 21, 3) := dk_162 0 21 (dk_at dksX2_copyTo_0 5 rfl rfl)
theorem dX2_copyTo_8 : decode cX2_copyTo 8 = .ok (.aload_n 0, 1) := dk_42 (dk_at dksX2_copyTo_0 8 rfl rfl)
theorem dX2_copyTo_9 : decode cX2_copyTo 9 = .ok (.iload_n 2, 1) := dk_28 (dk_at dksX2_copyTo_0 9 rfl rfl)
theorem dX2_copyTo_10 : decode cX2_copyTo 10 = .ok (.iload_n 3, 1) := dk_29 (dk_at dksX2_copyTo_0 10 rfl rfl)
theorem dX2_copyTo_11 : decode cX2_copyTo 11 = .ok (.aload_n 0, 1) := dk_42 (dk_at dksX2_copyTo_0 11 rfl rfl)
theorem dX2_copyTo_12 : decode cX2_copyTo 12 = .ok (.iload_n 1, 1) := dk_27 (dk_at dksX2_copyTo_0 12 rfl rfl)
theorem dX2_copyTo_13 : decode cX2_copyTo 13 = .ok (.iload_n 3, 1) := dk_29 (dk_at dksX2_copyTo_0 13 rfl rfl)
theorem dX2_copyTo_14 : decode cX2_copyTo 14 = .ok (.invokevirtual 152, 3) := dk_182 0 152 (dk_at dksX2_copyTo_0 14 rfl rfl)
theorem dX2_copyTo_17 : decode cX2_copyTo 17 = .ok (.invokevirtual 145, 3) := dk_182 0 145 (dk_at dksX2_copyTo_0 17 rfl rfl)
theorem dX2_copyTo_20 : decode cX2_copyTo 20 = .ok (.iinc 3 1, 3) := dk_132 3 1 (dk_at dksX2_copyTo_0 20 rfl rfl)
theorem dX2_copyTo_23 : decode cX2_copyTo 23 = .ok (.goto (-21), 3) := dk_167 255 235 (dk_at dksX2_copyTo_1 0 rfl rfl)
theorem dX2_copyTo_26 : decode cX2_copyTo 26 = .ok (.return_, 1) := dk_177 (dk_at dksX2_copyTo_1 3 rfl rfl)
abbrev cX2_firstAgainst : ByteArray := prog_11_method_64_code
def yX2_firstAgainst : MethodName := ⟨RX2, "firstAgainst", "(II)I"⟩
def dkwX2_firstAgainst_1 : List UInt8 := [153, 0, 20, 42, 27, 42, 28, 29, 182, 0, 101, 182, 0, 192, 132, 3, 1, 167, 255, 218, 29, 172]
abbrev dktX2_firstAgainst_1 : List UInt8 := dkwX2_firstAgainst_1 ++ []
def dkwX2_firstAgainst_0 : List UInt8 := [3, 62, 29, 42, 180, 0, 17, 28, 46, 162, 0, 34, 42, 27, 42, 28, 29, 182, 0, 101, 182, 0, 155]
abbrev dktX2_firstAgainst_0 : List UInt8 := dkwX2_firstAgainst_0 ++ dktX2_firstAgainst_1
theorem dksX2_firstAgainst_0 : cX2_firstAgainst.data.toList.drop 0 = dktX2_firstAgainst_0 := by decide +kernel
theorem dksX2_firstAgainst_1 : cX2_firstAgainst.data.toList.drop 23 = dktX2_firstAgainst_1 := dk_seg dksX2_firstAgainst_0 23 rfl rfl
theorem dX2_firstAgainst_0 : decode cX2_firstAgainst 0 = .ok (.iconst 0, 1) := dk_3 (dk_at dksX2_firstAgainst_0 0 rfl rfl)
theorem dX2_firstAgainst_1 : decode cX2_firstAgainst 1 = .ok (.istore_n 3, 1) := dk_62 (dk_at dksX2_firstAgainst_0 1 rfl rfl)
theorem dX2_firstAgainst_2 : decode cX2_firstAgainst 2 = .ok (.iload_n 3, 1) := dk_29 (dk_at dksX2_firstAgainst_0 2 rfl rfl)
theorem dX2_firstAgainst_3 : decode cX2_firstAgainst 3 = .ok (.aload_n 0, 1) := dk_42 (dk_at dksX2_firstAgainst_0 3 rfl rfl)
theorem dX2_firstAgainst_4 : decode cX2_firstAgainst 4 = .ok (.getfield 17, 3) := dk_180 0 17 (dk_at dksX2_firstAgainst_0 4 rfl rfl)
theorem dX2_firstAgainst_7 : decode cX2_firstAgainst 7 = .ok (.iload_n 2, 1) := dk_28 (dk_at dksX2_firstAgainst_0 7 rfl rfl)
theorem dX2_firstAgainst_8 : decode cX2_firstAgainst 8 = .ok (.iaload, 1) := dk_46 (dk_at dksX2_firstAgainst_0 8 rfl rfl)
theorem dX2_firstAgainst_9 : decode cX2_firstAgainst 9 = .ok (.if_icmp .ge 34, 3) := dk_162 0 34 (dk_at dksX2_firstAgainst_0 9 rfl rfl)
theorem dX2_firstAgainst_12 : decode cX2_firstAgainst 12 = .ok (.aload_n 0, 1) := dk_42 (dk_at dksX2_firstAgainst_0 12 rfl rfl)
theorem dX2_firstAgainst_13 : decode cX2_firstAgainst 13 = .ok (.iload_n 1, 1) := dk_27 (dk_at dksX2_firstAgainst_0 13 rfl rfl)
theorem dX2_firstAgainst_14 : decode cX2_firstAgainst 14 = .ok (.aload_n 0, 1) := dk_42 (dk_at dksX2_firstAgainst_0 14 rfl rfl)
theorem dX2_firstAgainst_15 : decode cX2_firstAgainst 15 = .ok (.iload_n 2, 1) := dk_28 (dk_at dksX2_firstAgainst_0 15 rfl rfl)
theorem dX2_firstAgainst_16 : decode cX2_firstAgainst 16 = .ok (.iload_n 3, 1) := dk_29 (dk_at dksX2_firstAgainst_0 16 rfl rfl)
theorem dX2_firstAgainst_17 : decode cX2_firstAgainst 17 = .ok (.invokevirtual 101, 3) := dk_182 0 101 (dk_at dksX2_firstAgainst_0 17 rfl rfl)
theorem dX2_firstAgainst_20 : decode cX2_firstAgainst 20 = .ok (.invokevirtual 155, 3) := dk_182 0 155 (dk_at dksX2_firstAgainst_0 20 rfl rfl)
theorem dX2_firstAgainst_23 : decode cX2_firstAgainst 23 = .ok (.ifCond .eq 20, 3) := dk_153 0 20 (dk_at dksX2_firstAgainst_1 0 rfl rfl)
theorem dX2_firstAgainst_26 : decode cX2_firstAgainst 26 = .ok (.aload_n 0, 1) := dk_42 (dk_at dksX2_firstAgainst_1 3 rfl rfl)
theorem dX2_firstAgainst_27 : decode cX2_firstAgainst 27 = .ok (.iload_n 1, 1) := dk_27 (dk_at dksX2_firstAgainst_1 4 rfl rfl)
theorem dX2_firstAgainst_28 : decode cX2_firstAgainst 28 = .ok (.aload_n 0, 1) := dk_42 (dk_at dksX2_firstAgainst_1 5 rfl rfl)
theorem dX2_firstAgainst_29 : decode cX2_firstAgainst 29 = .ok (.iload_n 2, 1) := dk_28 (dk_at dksX2_firstAgainst_1 6 rfl rfl)
theorem dX2_firstAgainst_30 : decode cX2_firstAgainst 30 = .ok (.iload_n 3, 1) := dk_29 (dk_at dksX2_firstAgainst_1 7 rfl rfl)
theorem dX2_firstAgainst_31 : decode cX2_firstAgainst 31 = .ok (.invokevirtual 101, 3) := dk_182 0 101 (dk_at dksX2_firstAgainst_1 8 rfl rfl)
theorem dX2_firstAgainst_34 : decode cX2_firstAgainst 34 = .ok (.invokevirtual 192, 3) := dk_182 0 192 (dk_at dksX2_firstAgainst_1 11 rfl rfl)
theorem dX2_firstAgainst_37 : decode cX2_firstAgainst 37 = .ok (.iinc 3 1, 3) := dk_132 3 1 (dk_at dksX2_firstAgainst_1 14 rfl rfl)
theorem dX2_firstAgainst_40 : decode cX2_firstAgainst 40 = .ok (.goto (-38), 3) := dk_167 255 218 (dk_at dksX2_firstAgainst_1 17 rfl rfl)
theorem dX2_firstAgainst_43 : decode cX2_firstAgainst 43 = .ok (.iload_n 3, 1) := dk_29 (dk_at dksX2_firstAgainst_1 20 rfl rfl)
theorem dX2_firstAgainst_44 : decode cX2_firstAgainst 44 = .ok (.ireturn, 1) := dk_172 (dk_at dksX2_firstAgainst_1 21 rfl rfl)
abbrev cX2_earns : ByteArray := prog_11_method_66_code
def yX2_earns : MethodName := ⟨RX2, "earns", "(I)I"⟩
def dkwX2_earns_2 : List UInt8 := [100, 172]
abbrev dktX2_earns_2 : List UInt8 := dkwX2_earns_2 ++ []
def dkwX2_earns_1 : List UInt8 := [182, 0, 212, 42, 4, 27, 182, 0, 215, 87, 42, 4, 16, 8, 182, 0, 152, 42, 3, 16, 8, 182, 0, 152]
abbrev dktX2_earns_1 : List UInt8 := dkwX2_earns_1 ++ dktX2_earns_2
def dkwX2_earns_0 : List UInt8 := [27, 184, 0, 93, 154, 0, 5, 2, 172, 42, 27, 182, 0, 209, 61, 28, 156, 0, 5, 28, 172, 42, 3, 4]
abbrev dktX2_earns_0 : List UInt8 := dkwX2_earns_0 ++ dktX2_earns_1
theorem dksX2_earns_0 : cX2_earns.data.toList.drop 0 = dktX2_earns_0 := by decide +kernel
theorem dksX2_earns_1 : cX2_earns.data.toList.drop 24 = dktX2_earns_1 := dk_seg dksX2_earns_0 24 rfl rfl
theorem dksX2_earns_2 : cX2_earns.data.toList.drop 48 = dktX2_earns_2 := dk_seg dksX2_earns_1 24 rfl rfl
theorem dX2_earns_0 : decode cX2_earns 0 = .ok (.iload_n 1, 1) := dk_27 (dk_at dksX2_earns_0 0 rfl rfl)
theorem dX2_earns_1 : decode cX2_earns 1 = .ok (.invokestatic 93, 3) := dk_184 0 93 (dk_at dksX2_earns_0 1 rfl rfl)
theorem dX2_earns_4 : decode cX2_earns 4 = .ok (.ifCond .ne 5, 3) := dk_154 0 5 (dk_at dksX2_earns_0 4 rfl rfl)
theorem dX2_earns_7 : decode cX2_earns 7 = .ok (.iconst (-1), 1) := dk_2 (dk_at dksX2_earns_0 7 rfl rfl)
theorem dX2_earns_8 : decode cX2_earns 8 = .ok (.ireturn, 1) := dk_172 (dk_at dksX2_earns_0 8 rfl rfl)
theorem dX2_earns_9 : decode cX2_earns 9 = .ok (.aload_n 0, 1) := dk_42 (dk_at dksX2_earns_0 9 rfl rfl)
theorem dX2_earns_10 : decode cX2_earns 10 = .ok (.iload_n 1, 1) := dk_27 (dk_at dksX2_earns_0 10 rfl rfl)
theorem dX2_earns_11 : decode cX2_earns 11 = .ok (.invokevirtual 209, 3) := dk_182 0 209 (dk_at dksX2_earns_0 11 rfl rfl)
theorem dX2_earns_14 : decode cX2_earns 14 = .ok (.istore_n 2, 1) := dk_61 (dk_at dksX2_earns_0 14 rfl rfl)
theorem dX2_earns_15 : decode cX2_earns 15 = .ok (.iload_n 2, 1) := dk_28 (dk_at dksX2_earns_0 15 rfl rfl)
theorem dX2_earns_16 : decode cX2_earns 16 = .ok (.ifCond .ge 5, 3) := dk_156 0 5 (dk_at dksX2_earns_0 16 rfl rfl)
theorem dX2_earns_19 : decode cX2_earns 19 = .ok (.iload_n 2, 1) := dk_28 (dk_at dksX2_earns_0 19 rfl rfl)
theorem dX2_earns_20 : decode cX2_earns 20 = .ok (.ireturn, 1) := dk_172 (dk_at dksX2_earns_0 20 rfl rfl)
theorem dX2_earns_21 : decode cX2_earns 21 = .ok (.aload_n 0, 1) := dk_42 (dk_at dksX2_earns_0 21 rfl rfl)
theorem dX2_earns_22 : decode cX2_earns 22 = .ok (.iconst 0, 1) := dk_3 (dk_at dksX2_earns_0 22 rfl rfl)
theorem dX2_earns_23 : decode cX2_earns 23 = .ok (.iconst 1, 1) := dk_4 (dk_at dksX2_earns_0 23 rfl rfl)
theorem dX2_earns_24 : decode cX2_earns 24 = .ok (.invokevirtual 212, 3) := dk_182 0 212 (dk_at dksX2_earns_1 0 rfl rfl)
theorem dX2_earns_27 : decode cX2_earns 27 = .ok (.aload_n 0, 1) := dk_42 (dk_at dksX2_earns_1 3 rfl rfl)
theorem dX2_earns_28 : decode cX2_earns 28 = .ok (.iconst 1, 1) := dk_4 (dk_at dksX2_earns_1 4 rfl rfl)
theorem dX2_earns_29 : decode cX2_earns 29 = .ok (.iload_n 1, 1) := dk_27 (dk_at dksX2_earns_1 5 rfl rfl)
theorem dX2_earns_30 : decode cX2_earns 30 = .ok (.invokevirtual 215, 3) := dk_182 0 215 (dk_at dksX2_earns_1 6 rfl rfl)
theorem dX2_earns_33 : decode cX2_earns 33 = .ok (.pop, 1) := dk_87 (dk_at dksX2_earns_1 9 rfl rfl)
theorem dX2_earns_34 : decode cX2_earns 34 = .ok (.aload_n 0, 1) := dk_42 (dk_at dksX2_earns_1 10 rfl rfl)
theorem dX2_earns_35 : decode cX2_earns 35 = .ok (.iconst 1, 1) := dk_4 (dk_at dksX2_earns_1 11 rfl rfl)
theorem dX2_earns_36 : decode cX2_earns 36 = .ok (.bipush 8, 2) := dk_16 8 (dk_at dksX2_earns_1 12 rfl rfl)
theorem dX2_earns_38 : decode cX2_earns 38 = .ok (.invokevirtual 152, 3) := dk_182 0 152 (dk_at dksX2_earns_1 14 rfl rfl)
theorem dX2_earns_41 : decode cX2_earns 41 = .ok (.aload_n 0, 1) := dk_42 (dk_at dksX2_earns_1 17 rfl rfl)
theorem dX2_earns_42 : decode cX2_earns 42 = .ok (.iconst 0, 1) := dk_3 (dk_at dksX2_earns_1 18 rfl rfl)
theorem dX2_earns_43 : decode cX2_earns 43 = .ok (.bipush 8, 2) := dk_16 8 (dk_at dksX2_earns_1 19 rfl rfl)
theorem dX2_earns_45 : decode cX2_earns 45 = .ok (.invokevirtual 152, 3) := dk_182 0 152 (dk_at dksX2_earns_1 21 rfl rfl)
theorem dX2_earns_48 : decode cX2_earns 48 = .ok (.isub, 1) := dk_100 (dk_at dksX2_earns_2 0 rfl rfl)
theorem dX2_earns_49 : decode cX2_earns 49 = .ok (.ireturn, 1) := dk_172 (dk_at dksX2_earns_2 1 rfl rfl)
abbrev cX2_digs : ByteArray := prog_11_method_68_code
def yX2_digs : MethodName := ⟨RX2, "digs", "(II)I"⟩
def dkwX2_digs_3 : List UInt8 := [16, 247, 172]
abbrev dktX2_digs_3 : List UInt8 := dkwX2_digs_3 ++ []
def dkwX2_digs_2 : List UInt8 := [153, 0, 17, 42, 28, 42, 180, 0, 67, 21, 4, 182, 0, 221, 21, 4, 172, 132, 4, 1, 167, 255, 222]
abbrev dktX2_digs_2 : List UInt8 := dkwX2_digs_2 ++ dktX2_digs_3
def dkwX2_digs_1 : List UInt8 := [156, 0, 5, 29, 172, 3, 54, 4, 21, 4, 7, 163, 0, 34, 42, 27, 3, 21, 4, 182, 0, 218]
abbrev dktX2_digs_1 : List UInt8 := dkwX2_digs_1 ++ dktX2_digs_2
def dkwX2_digs_0 : List UInt8 := [27, 184, 0, 93, 153, 0, 10, 28, 184, 0, 93, 154, 0, 5, 2, 172, 42, 27, 182, 0, 209, 62, 29]
abbrev dktX2_digs_0 : List UInt8 := dkwX2_digs_0 ++ dktX2_digs_1
theorem dksX2_digs_0 : cX2_digs.data.toList.drop 0 = dktX2_digs_0 := by decide +kernel
theorem dksX2_digs_1 : cX2_digs.data.toList.drop 23 = dktX2_digs_1 := dk_seg dksX2_digs_0 23 rfl rfl
theorem dksX2_digs_2 : cX2_digs.data.toList.drop 45 = dktX2_digs_2 := dk_seg dksX2_digs_1 22 rfl rfl
theorem dksX2_digs_3 : cX2_digs.data.toList.drop 68 = dktX2_digs_3 := dk_seg dksX2_digs_2 23 rfl rfl
theorem dX2_digs_0 : decode cX2_digs 0 = .ok (.iload_n 1, 1) := dk_27 (dk_at dksX2_digs_0 0 rfl rfl)
theorem dX2_digs_1 : decode cX2_digs 1 = .ok (.invokestatic 93, 3) := dk_184 0 93 (dk_at dksX2_digs_0 1 rfl rfl)
theorem dX2_digs_4 : decode cX2_digs 4 = .ok (.ifCond .eq 10, 3) := dk_153 0 10 (dk_at dksX2_digs_0 4 rfl rfl)
theorem dX2_digs_7 : decode cX2_digs 7 = .ok (.iload_n 2, 1) := dk_28 (dk_at dksX2_digs_0 7 rfl rfl)
theorem dX2_digs_8 : decode cX2_digs 8 = .ok (.invokestatic 93, 3) := dk_184 0 93 (dk_at dksX2_digs_0 8 rfl rfl)
theorem dX2_digs_11 : decode cX2_digs 11 = .ok (.ifCond .ne 5, 3) := dk_154 0 5 (dk_at dksX2_digs_0 11 rfl rfl)
theorem dX2_digs_14 : decode cX2_digs 14 = .ok (.iconst (-1), 1) := dk_2 (dk_at dksX2_digs_0 14 rfl rfl)
theorem dX2_digs_15 : decode cX2_digs 15 = .ok (.ireturn, 1) := dk_172 (dk_at dksX2_digs_0 15 rfl rfl)
theorem dX2_digs_16 : decode cX2_digs 16 = .ok (.aload_n 0, 1) := dk_42 (dk_at dksX2_digs_0 16 rfl rfl)
theorem dX2_digs_17 : decode cX2_digs 17 = .ok (.iload_n 1, 1) := dk_27 (dk_at dksX2_digs_0 17 rfl rfl)
theorem dX2_digs_18 : decode cX2_digs 18 = .ok (.invokevirtual 209, 3) := dk_182 0 209 (dk_at dksX2_digs_0 18 rfl rfl)
theorem dX2_digs_21 : decode cX2_digs 21 = .ok (.istore_n 3, 1) := dk_62 (dk_at dksX2_digs_0 21 rfl rfl)
theorem dX2_digs_22 : decode cX2_digs 22 = .ok (.iload_n 3, 1) := dk_29 (dk_at dksX2_digs_0 22 rfl rfl)
theorem dX2_digs_23 : decode cX2_digs 23 = .ok (.ifCond .ge 5, 3) := dk_156 0 5 (dk_at dksX2_digs_1 0 rfl rfl)
theorem dX2_digs_26 : decode cX2_digs 26 = .ok (.iload_n 3, 1) := dk_29 (dk_at dksX2_digs_1 3 rfl rfl)
theorem dX2_digs_27 : decode cX2_digs 27 = .ok (.ireturn, 1) := dk_172 (dk_at dksX2_digs_1 4 rfl rfl)
theorem dX2_digs_28 : decode cX2_digs 28 = .ok (.iconst 0, 1) := dk_3 (dk_at dksX2_digs_1 5 rfl rfl)
theorem dX2_digs_29 : decode cX2_digs 29 = .ok (.istore 4, 2) := dk_54 4 (dk_at dksX2_digs_1 6 rfl rfl)
theorem dX2_digs_31 : decode cX2_digs 31 = .ok (.iload 4, 2) := dk_21 4 (dk_at dksX2_digs_1 8 rfl rfl)
theorem dX2_digs_33 : decode cX2_digs 33 = .ok (.iconst 4, 1) := dk_7 (dk_at dksX2_digs_1 10 rfl rfl)
theorem dX2_digs_34 : decode cX2_digs 34 = .ok (.if_icmp .gt 34, 3) := dk_163 0 34 (dk_at dksX2_digs_1 11 rfl rfl)
theorem dX2_digs_37 : decode cX2_digs 37 = .ok (.aload_n 0, 1) := dk_42 (dk_at dksX2_digs_1 14 rfl rfl)
theorem dX2_digs_38 : decode cX2_digs 38 = .ok (.iload_n 1, 1) := dk_27 (dk_at dksX2_digs_1 15 rfl rfl)
theorem dX2_digs_39 : decode cX2_digs 39 = .ok (.iconst 0, 1) := dk_3 (dk_at dksX2_digs_1 16 rfl rfl)
theorem dX2_digs_40 : decode cX2_digs 40 = .ok (.iload 4, 2) := dk_21 4 (dk_at dksX2_digs_1 17 rfl rfl)
theorem dX2_digs_42 : decode cX2_digs 42 = .ok (.invokevirtual 218, 3) := dk_182 0 218 (dk_at dksX2_digs_1 19 rfl rfl)
theorem dX2_digs_45 : decode cX2_digs 45 = .ok (.ifCond .eq 17, 3) := dk_153 0 17 (dk_at dksX2_digs_2 0 rfl rfl)
theorem dX2_digs_48 : decode cX2_digs 48 = .ok (.aload_n 0, 1) := dk_42 (dk_at dksX2_digs_2 3 rfl rfl)
theorem dX2_digs_49 : decode cX2_digs 49 = .ok (.iload_n 2, 1) := dk_28 (dk_at dksX2_digs_2 4 rfl rfl)
theorem dX2_digs_50 : decode cX2_digs 50 = .ok (.aload_n 0, 1) := dk_42 (dk_at dksX2_digs_2 5 rfl rfl)
theorem dX2_digs_51 : decode cX2_digs 51 = .ok (.getfield 67, 3) := dk_180 0 67 (dk_at dksX2_digs_2 6 rfl rfl)
theorem dX2_digs_54 : decode cX2_digs 54 = .ok (.iload 4, 2) := dk_21 4 (dk_at dksX2_digs_2 9 rfl rfl)
theorem dX2_digs_56 : decode cX2_digs 56 = .ok (.invokevirtual 221, 3) := dk_182 0 221 (dk_at dksX2_digs_2 11 rfl rfl)
theorem dX2_digs_59 : decode cX2_digs 59 = .ok (.iload 4, 2) := dk_21 4 (dk_at dksX2_digs_2 14 rfl rfl)
theorem dX2_digs_61 : decode cX2_digs 61 = .ok (.ireturn, 1) := dk_172 (dk_at dksX2_digs_2 16 rfl rfl)
theorem dX2_digs_62 : decode cX2_digs 62 = .ok (.iinc 4 1, 3) := dk_132 4 1 (dk_at dksX2_digs_2 17 rfl rfl)
theorem dX2_digs_65 : decode cX2_digs 65 = .ok (.goto (-34), 3) := dk_167 255 222 (dk_at dksX2_digs_2 20 rfl rfl)
theorem dX2_digs_68 : decode cX2_digs 68 = .ok (.bipush (-9), 2) := dk_16 247 (dk_at dksX2_digs_3 0 rfl rfl)
theorem dX2_digs_70 : decode cX2_digs 70 = .ok (.ireturn, 1) := dk_172 (dk_at dksX2_digs_3 2 rfl rfl)
abbrev cX2_digsOn : ByteArray := prog_11_method_67_code
def yX2_digsOn : MethodName := ⟨RX2, "digsOn", "(III)Z"⟩
def dkwX2_digsOn_5 : List UInt8 := [172]
abbrev dktX2_digsOn_5 : List UInt8 := dkwX2_digsOn_5 ++ []
def dkwX2_digsOn_4 : List UInt8 := [21, 4, 79, 42, 27, 28, 4, 96, 29, 182, 0, 218, 153, 0, 5, 4, 172, 132, 4, 1, 167, 255, 198, 3]
abbrev dktX2_digsOn_4 : List UInt8 := dkwX2_digsOn_4 ++ dktX2_digsOn_5
def dkwX2_digsOn_3 : List UInt8 := [182, 0, 212, 42, 28, 4, 96, 21, 4, 16, 6, 42, 180, 0, 76, 182, 0, 167, 87, 42, 180, 0, 67, 28]
abbrev dktX2_digsOn_3 : List UInt8 := dkwX2_digsOn_3 ++ dktX2_digsOn_4
def dkwX2_digsOn_2 : List UInt8 := [180, 0, 67, 28, 4, 100, 46, 54, 4, 21, 4, 42, 180, 0, 142, 162, 0, 55, 42, 28, 28, 4, 96]
abbrev dktX2_digsOn_2 : List UInt8 := dkwX2_digsOn_2 ++ dktX2_digsOn_3
def dkwX2_digsOn_1 : List UInt8 := [180, 0, 17, 27, 46, 160, 0, 7, 4, 167, 0, 4, 3, 172, 28, 154, 0, 7, 3, 167, 0, 11, 42]
abbrev dktX2_digsOn_1 : List UInt8 := dkwX2_digsOn_1 ++ dktX2_digsOn_2
def dkwX2_digsOn_0 : List UInt8 := [28, 29, 160, 0, 34, 42, 28, 28, 4, 96, 182, 0, 212, 42, 28, 4, 96, 27, 182, 0, 215, 42]
abbrev dktX2_digsOn_0 : List UInt8 := dkwX2_digsOn_0 ++ dktX2_digsOn_1
theorem dksX2_digsOn_0 : cX2_digsOn.data.toList.drop 0 = dktX2_digsOn_0 := by decide +kernel
theorem dksX2_digsOn_1 : cX2_digsOn.data.toList.drop 22 = dktX2_digsOn_1 := dk_seg dksX2_digsOn_0 22 rfl rfl
theorem dksX2_digsOn_2 : cX2_digsOn.data.toList.drop 45 = dktX2_digsOn_2 := dk_seg dksX2_digsOn_1 23 rfl rfl
theorem dksX2_digsOn_3 : cX2_digsOn.data.toList.drop 68 = dktX2_digsOn_3 := dk_seg dksX2_digsOn_2 23 rfl rfl
theorem dksX2_digsOn_4 : cX2_digsOn.data.toList.drop 92 = dktX2_digsOn_4 := dk_seg dksX2_digsOn_3 24 rfl rfl
theorem dksX2_digsOn_5 : cX2_digsOn.data.toList.drop 116 = dktX2_digsOn_5 := dk_seg dksX2_digsOn_4 24 rfl rfl
theorem dX2_digsOn_0 : decode cX2_digsOn 0 = .ok (.iload_n 2, 1) := dk_28 (dk_at dksX2_digsOn_0 0 rfl rfl)
theorem dX2_digsOn_1 : decode cX2_digsOn 1 = .ok (.iload_n 3, 1) := dk_29 (dk_at dksX2_digsOn_0 1 rfl rfl)
theorem dX2_digsOn_2 : decode cX2_digsOn 2 = .ok (.if_icmp .ne 34, 3) := dk_160 0 34 (dk_at dksX2_digsOn_0 2 rfl rfl)
theorem dX2_digsOn_5 : decode cX2_digsOn 5 = .ok (.aload_n 0, 1) := dk_42 (dk_at dksX2_digsOn_0 5 rfl rfl)
theorem dX2_digsOn_6 : decode cX2_digsOn 6 = .ok (.iload_n 2, 1) := dk_28 (dk_at dksX2_digsOn_0 6 rfl rfl)
theorem dX2_digsOn_7 : decode cX2_digsOn 7 = .ok (.iload_n 2, 1) := dk_28 (dk_at dksX2_digsOn_0 7 rfl rfl)
theorem dX2_digsOn_8 : decode cX2_digsOn 8 = .ok (.iconst 1, 1) := dk_4 (dk_at dksX2_digsOn_0 8 rfl rfl)
theorem dX2_digsOn_9 : decode cX2_digsOn 9 = .ok (.iadd, 1) := dk_96 (dk_at dksX2_digsOn_0 9 rfl rfl)
theorem dX2_digsOn_10 : decode cX2_digsOn 10 = .ok (.invokevirtual 212, 3) := dk_182 0 212 (dk_at dksX2_digsOn_0 10 rfl rfl)
theorem dX2_digsOn_13 : decode cX2_digsOn 13 = .ok (.aload_n 0, 1) := dk_42 (dk_at dksX2_digsOn_0 13 rfl rfl)
theorem dX2_digsOn_14 : decode cX2_digsOn 14 = .ok (.iload_n 2, 1) := dk_28 (dk_at dksX2_digsOn_0 14 rfl rfl)
theorem dX2_digsOn_15 : decode cX2_digsOn 15 = .ok (.iconst 1, 1) := dk_4 (dk_at dksX2_digsOn_0 15 rfl rfl)
theorem dX2_digsOn_16 : decode cX2_digsOn 16 = .ok (.iadd, 1) := dk_96 (dk_at dksX2_digsOn_0 16 rfl rfl)
theorem dX2_digsOn_17 : decode cX2_digsOn 17 = .ok (.iload_n 1, 1) := dk_27 (dk_at dksX2_digsOn_0 17 rfl rfl)
theorem dX2_digsOn_18 : decode cX2_digsOn 18 = .ok (.invokevirtual 215, 3) := dk_182 0 215 (dk_at dksX2_digsOn_0 18 rfl rfl)
theorem dX2_digsOn_21 : decode cX2_digsOn 21 = .ok (.aload_n 0, 1) := dk_42 (dk_at dksX2_digsOn_0 21 rfl rfl)
theorem dX2_digsOn_22 : decode cX2_digsOn 22 = .ok (.getfield 17, 3) := dk_180 0 17 (dk_at dksX2_digsOn_1 0 rfl rfl)
theorem dX2_digsOn_25 : decode cX2_digsOn 25 = .ok (.iload_n 1, 1) := dk_27 (dk_at dksX2_digsOn_1 3 rfl rfl)
theorem dX2_digsOn_26 : decode cX2_digsOn 26 = .ok (.iaload, 1) := dk_46 (dk_at dksX2_digsOn_1 4 rfl rfl)
theorem dX2_digsOn_27 : decode cX2_digsOn 27 = .ok (.if_icmp .ne 7, 3) := dk_160 0 7 (dk_at dksX2_digsOn_1 5 rfl rfl)
theorem dX2_digsOn_30 : decode cX2_digsOn 30 = .ok (.iconst 1, 1) := dk_4 (dk_at dksX2_digsOn_1 8 rfl rfl)
theorem dX2_digsOn_31 : decode cX2_digsOn 31 = .ok (.goto 4, 3) := dk_167 0 4 (dk_at dksX2_digsOn_1 9 rfl rfl)
theorem dX2_digsOn_34 : decode cX2_digsOn 34 = .ok (.iconst 0, 1) := dk_3 (dk_at dksX2_digsOn_1 12 rfl rfl)
theorem dX2_digsOn_35 : decode cX2_digsOn 35 = .ok (.ireturn, 1) := dk_172 (dk_at dksX2_digsOn_1 13 rfl rfl)
theorem dX2_digsOn_36 : decode cX2_digsOn 36 = .ok (.iload_n 2, 1) := dk_28 (dk_at dksX2_digsOn_1 14 rfl rfl)
theorem dX2_digsOn_37 : decode cX2_digsOn 37 = .ok (.ifCond .ne 7, 3) := dk_154 0 7 (dk_at dksX2_digsOn_1 15 rfl rfl)
theorem dX2_digsOn_40 : decode cX2_digsOn 40 = .ok (.iconst 0, 1) := dk_3 (dk_at dksX2_digsOn_1 18 rfl rfl)
theorem dX2_digsOn_41 : decode cX2_digsOn 41 = .ok (.goto 11, 3) := dk_167 0 11 (dk_at dksX2_digsOn_1 19 rfl rfl)
theorem dX2_digsOn_44 : decode cX2_digsOn 44 = .ok (.aload_n 0, 1) := dk_42 (dk_at dksX2_digsOn_1 22 rfl rfl)
theorem dX2_digsOn_45 : decode cX2_digsOn 45 = .ok (.getfield 67, 3) := dk_180 0 67 (dk_at dksX2_digsOn_2 0 rfl rfl)
theorem dX2_digsOn_48 : decode cX2_digsOn 48 = .ok (.iload_n 2, 1) := dk_28 (dk_at dksX2_digsOn_2 3 rfl rfl)
theorem dX2_digsOn_49 : decode cX2_digsOn 49 = .ok (.iconst 1, 1) := dk_4 (dk_at dksX2_digsOn_2 4 rfl rfl)
theorem dX2_digsOn_50 : decode cX2_digsOn 50 = .ok (.isub, 1) := dk_100 (dk_at dksX2_digsOn_2 5 rfl rfl)
theorem dX2_digsOn_51 : decode cX2_digsOn 51 = .ok (.iaload, 1) := dk_46 (dk_at dksX2_digsOn_2 6 rfl rfl)
theorem dX2_digsOn_52 : decode cX2_digsOn 52 = .ok (.istore 4, 2) := dk_54 4 (dk_at dksX2_digsOn_2 7 rfl rfl)
theorem dX2_digsOn_54 : decode cX2_digsOn 54 = .ok (.iload 4, 2) := dk_21 4 (dk_at dksX2_digsOn_2 9 rfl rfl)
theorem dX2_digsOn_56 : decode cX2_digsOn 56 = .ok (.aload_n 0, 1) := dk_42 (dk_at dksX2_digsOn_2 11 rfl rfl)
theorem dX2_digsOn_57 : decode cX2_digsOn 57 = .ok (.getfield 142, 3) := dk_180 0 142 (dk_at dksX2_digsOn_2 12 rfl rfl)
theorem dX2_digsOn_60 : decode cX2_digsOn 60 = .ok (.if_icmp .ge 55, 3) := dk_162 0 55 (dk_at dksX2_digsOn_2 15 rfl rfl)
theorem dX2_digsOn_63 : decode cX2_digsOn 63 = .ok (.aload_n 0, 1) := dk_42 (dk_at dksX2_digsOn_2 18 rfl rfl)
theorem dX2_digsOn_64 : decode cX2_digsOn 64 = .ok (.iload_n 2, 1) := dk_28 (dk_at dksX2_digsOn_2 19 rfl rfl)
theorem dX2_digsOn_65 : decode cX2_digsOn 65 = .ok (.iload_n 2, 1) := dk_28 (dk_at dksX2_digsOn_2 20 rfl rfl)
theorem dX2_digsOn_66 : decode cX2_digsOn 66 = .ok (.iconst 1, 1) := dk_4 (dk_at dksX2_digsOn_2 21 rfl rfl)
theorem dX2_digsOn_67 : decode cX2_digsOn 67 = .ok (.iadd, 1) := dk_96 (dk_at dksX2_digsOn_2 22 rfl rfl)
theorem dX2_digsOn_68 : decode cX2_digsOn 68 = .ok (.invokevirtual 212, 3) := dk_182 0 212 (dk_at dksX2_digsOn_3 0 rfl rfl)
theorem dX2_digsOn_71 : decode cX2_digsOn 71 = .ok (.aload_n 0, 1) := dk_42 (dk_at dksX2_digsOn_3 3 rfl rfl)
theorem dX2_digsOn_72 : decode cX2_digsOn 72 = .ok (.iload_n 2, 1) := dk_28 (dk_at dksX2_digsOn_3 4 rfl rfl)
theorem dX2_digsOn_73 : decode cX2_digsOn 73 = .ok (.iconst 1, 1) := dk_4 (dk_at dksX2_digsOn_3 5 rfl rfl)
theorem dX2_digsOn_74 : decode cX2_digsOn 74 = .ok (.iadd, 1) := dk_96 (dk_at dksX2_digsOn_3 6 rfl rfl)
theorem dX2_digsOn_75 : decode cX2_digsOn 75 = .ok (.iload 4, 2) := dk_21 4 (dk_at dksX2_digsOn_3 7 rfl rfl)
theorem dX2_digsOn_77 : decode cX2_digsOn 77 = .ok (.bipush 6, 2) := dk_16 6 (dk_at dksX2_digsOn_3 9 rfl rfl)
theorem dX2_digsOn_79 : decode cX2_digsOn 79 = .ok (.aload_n 0, 1) := dk_42 (dk_at dksX2_digsOn_3 11 rfl rfl)
theorem dX2_digsOn_80 : decode cX2_digsOn 80 = .ok (.getfield 76, 3) := dk_180 0 76 (dk_at dksX2_digsOn_3 12 rfl rfl)
theorem dX2_digsOn_83 : decode cX2_digsOn 83 = .ok (.invokevirtual 167, 3) := dk_182 0 167 (dk_at dksX2_digsOn_3 15 rfl rfl)
theorem dX2_digsOn_86 : decode cX2_digsOn 86 = .ok (.pop, 1) := dk_87 (dk_at dksX2_digsOn_3 18 rfl rfl)
theorem dX2_digsOn_87 : decode cX2_digsOn 87 = .ok (.aload_n 0, 1) := dk_42 (dk_at dksX2_digsOn_3 19 rfl rfl)
theorem dX2_digsOn_88 : decode cX2_digsOn 88 = .ok (.getfield 67, 3) := dk_180 0 67 (dk_at dksX2_digsOn_3 20 rfl rfl)
theorem dX2_digsOn_91 : decode cX2_digsOn 91 = .ok (.iload_n 2, 1) := dk_28 (dk_at dksX2_digsOn_3 23 rfl rfl)
theorem dX2_digsOn_92 : decode cX2_digsOn 92 = .ok (.iload 4, 2) := dk_21 4 (dk_at dksX2_digsOn_4 0 rfl rfl)
theorem dX2_digsOn_94 : decode cX2_digsOn 94 = .ok (.iastore, 1) := dk_79 (dk_at dksX2_digsOn_4 2 rfl rfl)
theorem dX2_digsOn_95 : decode cX2_digsOn 95 = .ok (.aload_n 0, 1) := dk_42 (dk_at dksX2_digsOn_4 3 rfl rfl)
theorem dX2_digsOn_96 : decode cX2_digsOn 96 = .ok (.iload_n 1, 1) := dk_27 (dk_at dksX2_digsOn_4 4 rfl rfl)
theorem dX2_digsOn_97 : decode cX2_digsOn 97 = .ok (.iload_n 2, 1) := dk_28 (dk_at dksX2_digsOn_4 5 rfl rfl)
theorem dX2_digsOn_98 : decode cX2_digsOn 98 = .ok (.iconst 1, 1) := dk_4 (dk_at dksX2_digsOn_4 6 rfl rfl)
theorem dX2_digsOn_99 : decode cX2_digsOn 99 = .ok (.iadd, 1) := dk_96 (dk_at dksX2_digsOn_4 7 rfl rfl)
theorem dX2_digsOn_100 : decode cX2_digsOn 100 = .ok (.iload_n 3, 1) := dk_29 (dk_at dksX2_digsOn_4 8 rfl rfl)
theorem dX2_digsOn_101 : decode cX2_digsOn 101 = .ok (.invokevirtual 218, 3) := dk_182 0 218 (dk_at dksX2_digsOn_4 9 rfl rfl)
theorem dX2_digsOn_104 : decode cX2_digsOn 104 = .ok (.ifCond .eq 5, 3) := dk_153 0 5 (dk_at dksX2_digsOn_4 12 rfl rfl)
theorem dX2_digsOn_107 : decode cX2_digsOn 107 = .ok (.iconst 1, 1) := dk_4 (dk_at dksX2_digsOn_4 15 rfl rfl)
theorem dX2_digsOn_108 : decode cX2_digsOn 108 = .ok (.ireturn, 1) := dk_172 (dk_at dksX2_digsOn_4 16 rfl rfl)
theorem dX2_digsOn_109 : decode cX2_digsOn 109 = .ok (.iinc 4 1, 3) := dk_132 4 1 (dk_at dksX2_digsOn_4 17 rfl rfl)
theorem dX2_digsOn_112 : decode cX2_digsOn 112 = .ok (.goto (-58), 3) := dk_167 255 198 (dk_at dksX2_digsOn_4 20 rfl rfl)
theorem dX2_digsOn_115 : decode cX2_digsOn 115 = .ok (.iconst 0, 1) := dk_3 (dk_at dksX2_digsOn_4 23 rfl rfl)
theorem dX2_digsOn_116 : decode cX2_digsOn 116 = .ok (.ireturn, 1) := dk_172 (dk_at dksX2_digsOn_5 0 rfl rfl)
abbrev cX2_layRow : ByteArray := prog_11_method_27_code
def yX2_layRow : MethodName := ⟨RX2, "layRow", "(I[II)V"⟩
def dkwX2_layRow_2 : List UInt8 := [167, 255, 220, 177]
abbrev dktX2_layRow_2 : List UInt8 := dkwX2_layRow_2 ++ []
def dkwX2_layRow_1 : List UInt8 := [104, 21, 4, 96, 21, 4, 29, 162, 0, 10, 44, 21, 4, 46, 167, 0, 4, 3, 79, 132, 4, 1]
abbrev dktX2_layRow_1 : List UInt8 := dkwX2_layRow_1 ++ dktX2_layRow_2
def dkwX2_layRow_0 : List UInt8 := [42, 180, 0, 17, 27, 29, 79, 3, 54, 4, 21, 4, 16, 40, 162, 0, 35, 42, 180, 0, 20, 16, 40, 27]
abbrev dktX2_layRow_0 : List UInt8 := dkwX2_layRow_0 ++ dktX2_layRow_1
theorem dksX2_layRow_0 : cX2_layRow.data.toList.drop 0 = dktX2_layRow_0 := by decide +kernel
theorem dksX2_layRow_1 : cX2_layRow.data.toList.drop 24 = dktX2_layRow_1 := dk_seg dksX2_layRow_0 24 rfl rfl
theorem dksX2_layRow_2 : cX2_layRow.data.toList.drop 46 = dktX2_layRow_2 := dk_seg dksX2_layRow_1 22 rfl rfl
theorem dX2_layRow_0 : decode cX2_layRow 0 = .ok (.aload_n 0, 1) := dk_42 (dk_at dksX2_layRow_0 0 rfl rfl)
theorem dX2_layRow_1 : decode cX2_layRow 1 = .ok (.getfield 17, 3) := dk_180 0 17 (dk_at dksX2_layRow_0 1 rfl rfl)
theorem dX2_layRow_4 : decode cX2_layRow 4 = .ok (.iload_n 1, 1) := dk_27 (dk_at dksX2_layRow_0 4 rfl rfl)
theorem dX2_layRow_5 : decode cX2_layRow 5 = .ok (.iload_n 3, 1) := dk_29 (dk_at dksX2_layRow_0 5 rfl rfl)
theorem dX2_layRow_6 : decode cX2_layRow 6 = .ok (.iastore, 1) := dk_79 (dk_at dksX2_layRow_0 6 rfl rfl)
theorem dX2_layRow_7 : decode cX2_layRow 7 = .ok (.iconst 0, 1) := dk_3 (dk_at dksX2_layRow_0 7 rfl rfl)
theorem dX2_layRow_8 : decode cX2_layRow 8 = .ok (.istore 4, 2) := dk_54 4 (dk_at dksX2_layRow_0 8 rfl rfl)
theorem dX2_layRow_10 : decode cX2_layRow 10 = .ok (.iload 4, 2) := dk_21 4 (dk_at dksX2_layRow_0 10 rfl rfl)
theorem dX2_layRow_12 : decode cX2_layRow 12 = .ok (.bipush 40, 2) := dk_16 40 (dk_at dksX2_layRow_0 12 rfl rfl)
theorem dX2_layRow_14 : decode cX2_layRow 14 = .ok (.if_icmp .ge 35, 3) := dk_162 0 35 (dk_at dksX2_layRow_0 14 rfl rfl)
theorem dX2_layRow_17 : decode cX2_layRow 17 = .ok (.aload_n 0, 1) := dk_42 (dk_at dksX2_layRow_0 17 rfl rfl)
theorem dX2_layRow_18 : decode cX2_layRow 18 = .ok (.getfield 20, 3) := dk_180 0 20 (dk_at dksX2_layRow_0 18 rfl rfl)
theorem dX2_layRow_21 : decode cX2_layRow 21 = .ok (.bipush 40, 2) := dk_16 40 (dk_at dksX2_layRow_0 21 rfl rfl)
theorem dX2_layRow_23 : decode cX2_layRow 23 = .ok (.iload_n 1, 1) := dk_27 (dk_at dksX2_layRow_0 23 rfl rfl)
theorem dX2_layRow_24 : decode cX2_layRow 24 = .ok (.imul, 1) := dk_104 (dk_at dksX2_layRow_1 0 rfl rfl)
theorem dX2_layRow_25 : decode cX2_layRow 25 = .ok (.iload 4, 2) := dk_21 4 (dk_at dksX2_layRow_1 1 rfl rfl)
theorem dX2_layRow_27 : decode cX2_layRow 27 = .ok (.iadd, 1) := dk_96 (dk_at dksX2_layRow_1 3 rfl rfl)
theorem dX2_layRow_28 : decode cX2_layRow 28 = .ok (.iload 4, 2) := dk_21 4 (dk_at dksX2_layRow_1 4 rfl rfl)
theorem dX2_layRow_30 : decode cX2_layRow 30 = .ok (.iload_n 3, 1) := dk_29 (dk_at dksX2_layRow_1 6 rfl rfl)
theorem dX2_layRow_31 : decode cX2_layRow 31 = .ok (.if_icmp .ge 10, 3) := dk_162 0 10 (dk_at dksX2_layRow_1 7 rfl rfl)
theorem dX2_layRow_34 : decode cX2_layRow 34 = .ok (.aload_n 2, 1) := dk_44 (dk_at dksX2_layRow_1 10 rfl rfl)
theorem dX2_layRow_35 : decode cX2_layRow 35 = .ok (.iload 4, 2) := dk_21 4 (dk_at dksX2_layRow_1 11 rfl rfl)
theorem dX2_layRow_37 : decode cX2_layRow 37 = .ok (.iaload, 1) := dk_46 (dk_at dksX2_layRow_1 13 rfl rfl)
theorem dX2_layRow_38 : decode cX2_layRow 38 = .ok (.goto 4, 3) := dk_167 0 4 (dk_at dksX2_layRow_1 14 rfl rfl)
theorem dX2_layRow_41 : decode cX2_layRow 41 = .ok (.iconst 0, 1) := dk_3 (dk_at dksX2_layRow_1 17 rfl rfl)
theorem dX2_layRow_42 : decode cX2_layRow 42 = .ok (.iastore, 1) := dk_79 (dk_at dksX2_layRow_1 18 rfl rfl)
theorem dX2_layRow_43 : decode cX2_layRow 43 = .ok (.iinc 4 1, 3) := dk_132 4 1 (dk_at dksX2_layRow_1 19 rfl rfl)
theorem dX2_layRow_46 : decode cX2_layRow 46 = .ok (.goto (-36), 3) := dk_167 255 220 (dk_at dksX2_layRow_2 0 rfl rfl)
theorem dX2_layRow_49 : decode cX2_layRow 49 = .ok (.return_, 1) := dk_177 (dk_at dksX2_layRow_2 3 rfl rfl)
abbrev cX2_lasts : ByteArray := prog_11_method_69_code
def yX2_lasts : MethodName := ⟨RX2, "lasts", "(II)I"⟩
def dkwX2_lasts_3 : List UInt8 := [162, 0, 6, 21, 4, 172, 132, 4, 1, 167, 255, 215, 16, 20, 172]
abbrev dktX2_lasts_3 : List UInt8 := dkwX2_lasts_3 ++ []
def dkwX2_lasts_2 : List UInt8 := [4, 28, 182, 0, 200, 87, 42, 4, 5, 182, 0, 212, 42, 5, 27, 182, 0, 215, 42, 180, 0, 17, 27, 46]
abbrev dktX2_lasts_2 : List UInt8 := dkwX2_lasts_2 ++ dktX2_lasts_3
def dkwX2_lasts_1 : List UInt8 := [62, 29, 156, 0, 5, 29, 172, 42, 3, 4, 182, 0, 212, 3, 54, 4, 21, 4, 16, 20, 162, 0, 40, 42]
abbrev dktX2_lasts_1 : List UInt8 := dkwX2_lasts_1 ++ dktX2_lasts_2
def dkwX2_lasts_0 : List UInt8 := [27, 184, 0, 93, 153, 0, 13, 28, 3, 16, 9, 184, 0, 83, 154, 0, 5, 2, 172, 42, 27, 182, 0, 209]
abbrev dktX2_lasts_0 : List UInt8 := dkwX2_lasts_0 ++ dktX2_lasts_1
theorem dksX2_lasts_0 : cX2_lasts.data.toList.drop 0 = dktX2_lasts_0 := by decide +kernel
theorem dksX2_lasts_1 : cX2_lasts.data.toList.drop 24 = dktX2_lasts_1 := dk_seg dksX2_lasts_0 24 rfl rfl
theorem dksX2_lasts_2 : cX2_lasts.data.toList.drop 48 = dktX2_lasts_2 := dk_seg dksX2_lasts_1 24 rfl rfl
theorem dksX2_lasts_3 : cX2_lasts.data.toList.drop 72 = dktX2_lasts_3 := dk_seg dksX2_lasts_2 24 rfl rfl
theorem dX2_lasts_0 : decode cX2_lasts 0 = .ok (.iload_n 1, 1) := dk_27 (dk_at dksX2_lasts_0 0 rfl rfl)
theorem dX2_lasts_1 : decode cX2_lasts 1 = .ok (.invokestatic 93, 3) := dk_184 0 93 (dk_at dksX2_lasts_0 1 rfl rfl)
theorem dX2_lasts_4 : decode cX2_lasts 4 = .ok (.ifCond .eq 13, 3) := dk_153 0 13 (dk_at dksX2_lasts_0 4 rfl rfl)
theorem dX2_lasts_7 : decode cX2_lasts 7 = .ok (.iload_n 2, 1) := dk_28 (dk_at dksX2_lasts_0 7 rfl rfl)
theorem dX2_lasts_8 : decode cX2_lasts 8 = .ok (.iconst 0, 1) := dk_3 (dk_at dksX2_lasts_0 8 rfl rfl)
theorem dX2_lasts_9 : decode cX2_lasts 9 = .ok (.bipush 9, 2) := dk_16 9 (dk_at dksX2_lasts_0 9 rfl rfl)
theorem dX2_lasts_11 : decode cX2_lasts 11 = .ok (.invokestatic 83, 3) := dk_184 0 83 (dk_at dksX2_lasts_0 11 rfl rfl)
theorem dX2_lasts_14 : decode cX2_lasts 14 = .ok (.ifCond .ne 5, 3) := dk_154 0 5 (dk_at dksX2_lasts_0 14 rfl rfl)
theorem dX2_lasts_17 : decode cX2_lasts 17 = .ok (.iconst (-1), 1) := dk_2 (dk_at dksX2_lasts_0 17 rfl rfl)
theorem dX2_lasts_18 : decode cX2_lasts 18 = .ok (.ireturn, 1) := dk_172 (dk_at dksX2_lasts_0 18 rfl rfl)
theorem dX2_lasts_19 : decode cX2_lasts 19 = .ok (.aload_n 0, 1) := dk_42 (dk_at dksX2_lasts_0 19 rfl rfl)
theorem dX2_lasts_20 : decode cX2_lasts 20 = .ok (.iload_n 1, 1) := dk_27 (dk_at dksX2_lasts_0 20 rfl rfl)
theorem dX2_lasts_21 : decode cX2_lasts 21 = .ok (.invokevirtual 209, 3) := dk_182 0 209 (dk_at dksX2_lasts_0 21 rfl rfl)
theorem dX2_lasts_24 : decode cX2_lasts 24 = .ok (.istore_n 3, 1) := dk_62 (dk_at dksX2_lasts_1 0 rfl rfl)
theorem dX2_lasts_25 : decode cX2_lasts 25 = .ok (.iload_n 3, 1) := dk_29 (dk_at dksX2_lasts_1 1 rfl rfl)
theorem dX2_lasts_26 : decode cX2_lasts 26 = .ok (.ifCond .ge 5, 3) := dk_156 0 5 (dk_at dksX2_lasts_1 2 rfl rfl)
theorem dX2_lasts_29 : decode cX2_lasts 29 = .ok (.iload_n 3, 1) := dk_29 (dk_at dksX2_lasts_1 5 rfl rfl)
theorem dX2_lasts_30 : decode cX2_lasts 30 = .ok (.ireturn, 1) := dk_172 (dk_at dksX2_lasts_1 6 rfl rfl)
theorem dX2_lasts_31 : decode cX2_lasts 31 = .ok (.aload_n 0, 1) := dk_42 (dk_at dksX2_lasts_1 7 rfl rfl)
theorem dX2_lasts_32 : decode cX2_lasts 32 = .ok (.iconst 0, 1) := dk_3 (dk_at dksX2_lasts_1 8 rfl rfl)
theorem dX2_lasts_33 : decode cX2_lasts 33 = .ok (.iconst 1, 1) := dk_4 (dk_at dksX2_lasts_1 9 rfl rfl)
theorem dX2_lasts_34 : decode cX2_lasts 34 = .ok (.invokevirtual 212, 3) := dk_182 0 212 (dk_at dksX2_lasts_1 10 rfl rfl)
theorem dX2_lasts_37 : decode cX2_lasts 37 = .ok (.iconst 0, 1) := dk_3 (dk_at dksX2_lasts_1 13 rfl rfl)
theorem dX2_lasts_38 : decode cX2_lasts 38 = .ok (.istore 4, 2) := dk_54 4 (dk_at dksX2_lasts_1 14 rfl rfl)
theorem dX2_lasts_40 : decode cX2_lasts 40 = .ok (.iload 4, 2) := dk_21 4 (dk_at dksX2_lasts_1 16 rfl rfl)
theorem dX2_lasts_42 : decode cX2_lasts 42 = .ok (.bipush 20, 2) := dk_16 20 (dk_at dksX2_lasts_1 18 rfl rfl)
theorem dX2_lasts_44 : decode cX2_lasts 44 = .ok (.if_icmp .ge 40, 3) := dk_162 0 40 (dk_at dksX2_lasts_1 20 rfl rfl)
theorem dX2_lasts_47 : decode cX2_lasts 47 = .ok (.aload_n 0, 1) := dk_42 (dk_at dksX2_lasts_1 23 rfl rfl)
theorem dX2_lasts_48 : decode cX2_lasts 48 = .ok (.iconst 1, 1) := dk_4 (dk_at dksX2_lasts_2 0 rfl rfl)
theorem dX2_lasts_49 : decode cX2_lasts 49 = .ok (.iload_n 2, 1) := dk_28 (dk_at dksX2_lasts_2 1 rfl rfl)
theorem dX2_lasts_50 : decode cX2_lasts 50 = .ok (.invokevirtual 200, 3) := dk_182 0 200 (dk_at dksX2_lasts_2 2 rfl rfl)
theorem dX2_lasts_53 : decode cX2_lasts 53 = .ok (.pop, 1) := dk_87 (dk_at dksX2_lasts_2 5 rfl rfl)
theorem dX2_lasts_54 : decode cX2_lasts 54 = .ok (.aload_n 0, 1) := dk_42 (dk_at dksX2_lasts_2 6 rfl rfl)
theorem dX2_lasts_55 : decode cX2_lasts 55 = .ok (.iconst 1, 1) := dk_4 (dk_at dksX2_lasts_2 7 rfl rfl)
theorem dX2_lasts_56 : decode cX2_lasts 56 = .ok (.iconst 2, 1) := dk_5 (dk_at dksX2_lasts_2 8 rfl rfl)
theorem dX2_lasts_57 : decode cX2_lasts 57 = .ok (.invokevirtual 212, 3) := dk_182 0 212 (dk_at dksX2_lasts_2 9 rfl rfl)
theorem dX2_lasts_60 : decode cX2_lasts 60 = .ok (.aload_n 0, 1) := dk_42 (dk_at dksX2_lasts_2 12 rfl rfl)
theorem dX2_lasts_61 : decode cX2_lasts 61 = .ok (.iconst 2, 1) := dk_5 (dk_at dksX2_lasts_2 13 rfl rfl)
theorem dX2_lasts_62 : decode cX2_lasts 62 = .ok (.iload_n 1, 1) := dk_27 (dk_at dksX2_lasts_2 14 rfl rfl)
theorem dX2_lasts_63 : decode cX2_lasts 63 = .ok (.invokevirtual 215, 3) := dk_182 0 215 (dk_at dksX2_lasts_2 15 rfl rfl)
theorem dX2_lasts_66 : decode cX2_lasts 66 = .ok (.aload_n 0, 1) := dk_42 (dk_at dksX2_lasts_2 18 rfl rfl)
theorem dX2_lasts_67 : decode cX2_lasts 67 = .ok (.getfield 17, 3) := dk_180 0 17 (dk_at dksX2_lasts_2 19 rfl rfl)
theorem dX2_lasts_70 : decode cX2_lasts 70 = .ok (.iload_n 1, 1) := dk_27 (dk_at dksX2_lasts_2 22 rfl rfl)
theorem dX2_lasts_71 : decode cX2_lasts 71 = .ok (.iaload, 1) := dk_46 (dk_at dksX2_lasts_2 23 rfl rfl)
theorem dX2_lasts_72 : decode cX2_lasts 72 = .ok (.if_icmp .ge 6, 3) := dk_162 0 6 (dk_at dksX2_lasts_3 0 rfl rfl)
theorem dX2_lasts_75 : decode cX2_lasts 75 = .ok (.iload 4, 2) := dk_21 4 (dk_at dksX2_lasts_3 3 rfl rfl)
theorem dX2_lasts_77 : decode cX2_lasts 77 = .ok (.ireturn, 1) := dk_172 (dk_at dksX2_lasts_3 5 rfl rfl)
theorem dX2_lasts_78 : decode cX2_lasts 78 = .ok (.iinc 4 1, 3) := dk_132 4 1 (dk_at dksX2_lasts_3 6 rfl rfl)
theorem dX2_lasts_81 : decode cX2_lasts 81 = .ok (.goto (-41), 3) := dk_167 255 215 (dk_at dksX2_lasts_3 9 rfl rfl)
theorem dX2_lasts_84 : decode cX2_lasts 84 = .ok (.bipush 20, 2) := dk_16 20 (dk_at dksX2_lasts_3 12 rfl rfl)
theorem dX2_lasts_86 : decode cX2_lasts 86 = .ok (.ireturn, 1) := dk_172 (dk_at dksX2_lasts_3 14 rfl rfl)
abbrev cX2_duet : ByteArray := prog_11_method_70_code
def yX2_duet : MethodName := ⟨RX2, "duet", "(II)I"⟩
def dkwX2_duet_6 : List UInt8 := [182, 0, 192, 132, 4, 1, 167, 255, 205, 21, 4, 172]
abbrev dktX2_duet_6 : List UInt8 := dkwX2_duet_6 ++ []
def dkwX2_duet_5 : List UInt8 := [182, 0, 101, 182, 0, 155, 153, 0, 26, 42, 4, 21, 4, 5, 112, 96, 42, 28, 21, 4, 182, 0, 101]
abbrev dktX2_duet_5 : List UInt8 := dkwX2_duet_5 ++ dktX2_duet_6
def dkwX2_duet_4 : List UInt8 := [54, 4, 21, 4, 42, 180, 0, 17, 28, 46, 162, 0, 46, 42, 4, 21, 4, 5, 112, 96, 42, 28, 21, 4]
abbrev dktX2_duet_4 : List UInt8 := dkwX2_duet_4 ++ dktX2_duet_5
def dkwX2_duet_3 : List UInt8 := [21, 4, 42, 180, 0, 61, 16, 9, 27, 104, 21, 4, 96, 46, 182, 0, 145, 132, 4, 1, 167, 255, 227, 3]
abbrev dktX2_duet_3 : List UInt8 := dkwX2_duet_3 ++ dktX2_duet_4
def dkwX2_duet_2 : List UInt8 := [29, 156, 0, 5, 29, 172, 42, 3, 4, 182, 0, 212, 3, 54, 4, 21, 4, 16, 9, 162, 0, 28, 42, 5]
abbrev dktX2_duet_2 : List UInt8 := dkwX2_duet_2 ++ dktX2_duet_3
def dkwX2_duet_1 : List UInt8 := [155, 0, 12, 42, 180, 0, 51, 27, 51, 154, 0, 9, 42, 4, 182, 0, 97, 172, 42, 28, 182, 0, 206, 62]
abbrev dktX2_duet_1 : List UInt8 := dkwX2_duet_1 ++ dktX2_duet_2
def dkwX2_duet_0 : List UInt8 := [27, 3, 5, 184, 0, 83, 153, 0, 10, 28, 184, 0, 93, 154, 0, 5, 2, 172, 42, 180, 0, 17, 28, 46]
abbrev dktX2_duet_0 : List UInt8 := dkwX2_duet_0 ++ dktX2_duet_1
theorem dksX2_duet_0 : cX2_duet.data.toList.drop 0 = dktX2_duet_0 := by decide +kernel
theorem dksX2_duet_1 : cX2_duet.data.toList.drop 24 = dktX2_duet_1 := dk_seg dksX2_duet_0 24 rfl rfl
theorem dksX2_duet_2 : cX2_duet.data.toList.drop 48 = dktX2_duet_2 := dk_seg dksX2_duet_1 24 rfl rfl
theorem dksX2_duet_3 : cX2_duet.data.toList.drop 72 = dktX2_duet_3 := dk_seg dksX2_duet_2 24 rfl rfl
theorem dksX2_duet_4 : cX2_duet.data.toList.drop 96 = dktX2_duet_4 := dk_seg dksX2_duet_3 24 rfl rfl
theorem dksX2_duet_5 : cX2_duet.data.toList.drop 120 = dktX2_duet_5 := dk_seg dksX2_duet_4 24 rfl rfl
theorem dksX2_duet_6 : cX2_duet.data.toList.drop 143 = dktX2_duet_6 := dk_seg dksX2_duet_5 23 rfl rfl
theorem dX2_duet_0 : decode cX2_duet 0 = .ok (.iload_n 1, 1) := dk_27 (dk_at dksX2_duet_0 0 rfl rfl)
theorem dX2_duet_1 : decode cX2_duet 1 = .ok (.iconst 0, 1) := dk_3 (dk_at dksX2_duet_0 1 rfl rfl)
theorem dX2_duet_2 : decode cX2_duet 2 = .ok (.iconst 2, 1) := dk_5 (dk_at dksX2_duet_0 2 rfl rfl)
theorem dX2_duet_3 : decode cX2_duet 3 = .ok (.invokestatic 83, 3) := dk_184 0 83 (dk_at dksX2_duet_0 3 rfl rfl)
theorem dX2_duet_6 : decode cX2_duet 6 = .ok (.ifCond .eq 10, 3) := dk_153 0 10 (dk_at dksX2_duet_0 6 rfl rfl)
theorem dX2_duet_9 : decode cX2_duet 9 = .ok (.iload_n 2, 1) := dk_28 (dk_at dksX2_duet_0 9 rfl rfl)
theorem dX2_duet_10 : decode cX2_duet 10 = .ok (.invokestatic 93, 3) := dk_184 0 93 (dk_at dksX2_duet_0 10 rfl rfl)
theorem dX2_duet_13 : decode cX2_duet 13 = .ok (.ifCond .ne 5, 3) := dk_154 0 5 (dk_at dksX2_duet_0 13 rfl rfl)
theorem dX2_duet_16 : decode cX2_duet 16 = .ok (.iconst (-1), 1) := dk_2 (dk_at dksX2_duet_0 16 rfl rfl)
theorem dX2_duet_17 : decode cX2_duet 17 = .ok (.ireturn, 1) := dk_172 (dk_at dksX2_duet_0 17 rfl rfl)
theorem dX2_duet_18 : decode cX2_duet 18 = .ok (.aload_n 0, 1) := dk_42 (dk_at dksX2_duet_0 18 rfl rfl)
theorem dX2_duet_19 : decode cX2_duet 19 = .ok (.getfield 17, 3) := dk_180 0 17 (dk_at dksX2_duet_0 19 rfl rfl)
theorem dX2_duet_22 : decode cX2_duet 22 = .ok (.iload_n 2, 1) := dk_28 (dk_at dksX2_duet_0 22 rfl rfl)
theorem dX2_duet_23 : decode cX2_duet 23 = .ok (.iaload, 1) := dk_46 (dk_at dksX2_duet_0 23 rfl rfl)
theorem dX2_duet_24 : decode cX2_duet 24 = .ok (.ifCond .lt 12, 3) := dk_155 0 12 (dk_at dksX2_duet_1 0 rfl rfl)
theorem dX2_duet_27 : decode cX2_duet 27 = .ok (.aload_n 0, 1) := dk_42 (dk_at dksX2_duet_1 3 rfl rfl)
theorem dX2_duet_28 : decode cX2_duet 28 = .ok (.getfield 51, 3) := dk_180 0 51 (dk_at dksX2_duet_1 4 rfl rfl)
theorem dX2_duet_31 : decode cX2_duet 31 = .ok (.iload_n 1, 1) := dk_27 (dk_at dksX2_duet_1 7 rfl rfl)
theorem dX2_duet_32 : decode cX2_duet 32 = .ok (.baload, 1) := dk_51 (dk_at dksX2_duet_1 8 rfl rfl)
theorem dX2_duet_33 : decode cX2_duet 33 = .ok (.ifCond .ne 9, 3) := dk_154 0 9 (dk_at dksX2_duet_1 9 rfl rfl)
theorem dX2_duet_36 : decode cX2_duet 36 = .ok (.aload_n 0, 1) := dk_42 (dk_at dksX2_duet_1 12 rfl rfl)
theorem dX2_duet_37 : decode cX2_duet 37 = .ok (.iconst 1, 1) := dk_4 (dk_at dksX2_duet_1 13 rfl rfl)
theorem dX2_duet_38 : decode cX2_duet 38 = .ok (.invokevirtual 97, 3) := dk_182 0 97 (dk_at dksX2_duet_1 14 rfl rfl)
theorem dX2_duet_41 : decode cX2_duet 41 = .ok (.ireturn, 1) := dk_172 (dk_at dksX2_duet_1 17 rfl rfl)
theorem dX2_duet_42 : decode cX2_duet 42 = .ok (.aload_n 0, 1) := dk_42 (dk_at dksX2_duet_1 18 rfl rfl)
theorem dX2_duet_43 : decode cX2_duet 43 = .ok (.iload_n 2, 1) := dk_28 (dk_at dksX2_duet_1 19 rfl rfl)
theorem dX2_duet_44 : decode cX2_duet 44 = .ok (.invokevirtual 206, 3) := dk_182 0 206 (dk_at dksX2_duet_1 20 rfl rfl)
theorem dX2_duet_47 : decode cX2_duet 47 = .ok (.istore_n 3, 1) := dk_62 (dk_at dksX2_duet_1 23 rfl rfl)
theorem dX2_duet_48 : decode cX2_duet 48 = .ok (.iload_n 3, 1) := dk_29 (dk_at dksX2_duet_2 0 rfl rfl)
theorem dX2_duet_49 : decode cX2_duet 49 = .ok (.ifCond .ge 5, 3) := dk_156 0 5 (dk_at dksX2_duet_2 1 rfl rfl)
theorem dX2_duet_52 : decode cX2_duet 52 = .ok (.iload_n 3, 1) := dk_29 (dk_at dksX2_duet_2 4 rfl rfl)
theorem dX2_duet_53 : decode cX2_duet 53 = .ok (.ireturn, 1) := dk_172 (dk_at dksX2_duet_2 5 rfl rfl)
theorem dX2_duet_54 : decode cX2_duet 54 = .ok (.aload_n 0, 1) := dk_42 (dk_at dksX2_duet_2 6 rfl rfl)
theorem dX2_duet_55 : decode cX2_duet 55 = .ok (.iconst 0, 1) := dk_3 (dk_at dksX2_duet_2 7 rfl rfl)
theorem dX2_duet_56 : decode cX2_duet 56 = .ok (.iconst 1, 1) := dk_4 (dk_at dksX2_duet_2 8 rfl rfl)
theorem dX2_duet_57 : decode cX2_duet 57 = .ok (.invokevirtual 212, 3) := dk_182 0 212 (dk_at dksX2_duet_2 9 rfl rfl)
theorem dX2_duet_60 : decode cX2_duet 60 = .ok (.iconst 0, 1) := dk_3 (dk_at dksX2_duet_2 12 rfl rfl)
theorem dX2_duet_61 : decode cX2_duet 61 = .ok (.istore 4, 2) := dk_54 4 (dk_at dksX2_duet_2 13 rfl rfl)
theorem dX2_duet_63 : decode cX2_duet 63 = .ok (.iload 4, 2) := dk_21 4 (dk_at dksX2_duet_2 15 rfl rfl)
theorem dX2_duet_65 : decode cX2_duet 65 = .ok (.bipush 9, 2) := dk_16 9 (dk_at dksX2_duet_2 17 rfl rfl)
theorem dX2_duet_67 : decode cX2_duet 67 = .ok (.if_icmp .ge 28, 3) := dk_162 0 28 (dk_at dksX2_duet_2 19 rfl rfl)
theorem dX2_duet_70 : decode cX2_duet 70 = .ok (.aload_n 0, 1) := dk_42 (dk_at dksX2_duet_2 22 rfl rfl)
theorem dX2_duet_71 : decode cX2_duet 71 = .ok (.iconst 2, 1) := dk_5 (dk_at dksX2_duet_2 23 rfl rfl)
theorem dX2_duet_72 : decode cX2_duet 72 = .ok (.iload 4, 2) := dk_21 4 (dk_at dksX2_duet_3 0 rfl rfl)
theorem dX2_duet_74 : decode cX2_duet 74 = .ok (.aload_n 0, 1) := dk_42 (dk_at dksX2_duet_3 2 rfl rfl)
theorem dX2_duet_75 : decode cX2_duet 75 = .ok (.getfield 61, 3) := dk_180 0 61 (dk_at dksX2_duet_3 3 rfl rfl)
theorem dX2_duet_78 : decode cX2_duet 78 = .ok (.bipush 9, 2) := dk_16 9 (dk_at dksX2_duet_3 6 rfl rfl)
theorem dX2_duet_80 : decode cX2_duet 80 = .ok (.iload_n 1, 1) := dk_27 (dk_at dksX2_duet_3 8 rfl rfl)
theorem dX2_duet_81 : decode cX2_duet 81 = .ok (.imul, 1) := dk_104 (dk_at dksX2_duet_3 9 rfl rfl)
theorem dX2_duet_82 : decode cX2_duet 82 = .ok (.iload 4, 2) := dk_21 4 (dk_at dksX2_duet_3 10 rfl rfl)
theorem dX2_duet_84 : decode cX2_duet 84 = .ok (.iadd, 1) := dk_96 (dk_at dksX2_duet_3 12 rfl rfl)
theorem dX2_duet_85 : decode cX2_duet 85 = .ok (.iaload, 1) := dk_46 (dk_at dksX2_duet_3 13 rfl rfl)
theorem dX2_duet_86 : decode cX2_duet 86 = .ok (.invokevirtual 145, 3) := dk_182 0 145 (dk_at dksX2_duet_3 14 rfl rfl)
theorem dX2_duet_89 : decode cX2_duet 89 = .ok (.iinc 4 1, 3) := dk_132 4 1 (dk_at dksX2_duet_3 17 rfl rfl)
theorem dX2_duet_92 : decode cX2_duet 92 = .ok (.goto (-29), 3) := dk_167 255 227 (dk_at dksX2_duet_3 20 rfl rfl)
theorem dX2_duet_95 : decode cX2_duet 95 = .ok (.iconst 0, 1) := dk_3 (dk_at dksX2_duet_3 23 rfl rfl)
theorem dX2_duet_96 : decode cX2_duet 96 = .ok (.istore 4, 2) := dk_54 4 (dk_at dksX2_duet_4 0 rfl rfl)
theorem dX2_duet_98 : decode cX2_duet 98 = .ok (.iload 4, 2) := dk_21 4 (dk_at dksX2_duet_4 2 rfl rfl)
theorem dX2_duet_100 : decode cX2_duet 100 = .ok (.aload_n 0, 1) := dk_42 (dk_at dksX2_duet_4 4 rfl rfl)
theorem dX2_duet_101 : decode cX2_duet 101 = .ok (.getfield 17, 3) := dk_180 0 17 (dk_at dksX2_duet_4 5 rfl rfl)
theorem dX2_duet_104 : decode cX2_duet 104 = .ok (.iload_n 2, 1) := dk_28 (dk_at dksX2_duet_4 8 rfl rfl)
theorem dX2_duet_105 : decode cX2_duet 105 = .ok (.iaload, 1) := dk_46 (dk_at dksX2_duet_4 9 rfl rfl)
theorem dX2_duet_106 : decode cX2_duet 106 = .ok (.if_icmp .ge 46, 3) := dk_162 0 46 (dk_at dksX2_duet_4 10 rfl rfl)
theorem dX2_duet_109 : decode cX2_duet 109 = .ok (.aload_n 0, 1) := dk_42 (dk_at dksX2_duet_4 13 rfl rfl)
theorem dX2_duet_110 : decode cX2_duet 110 = .ok (.iconst 1, 1) := dk_4 (dk_at dksX2_duet_4 14 rfl rfl)
theorem dX2_duet_111 : decode cX2_duet 111 = .ok (.iload 4, 2) := dk_21 4 (dk_at dksX2_duet_4 15 rfl rfl)
theorem dX2_duet_113 : decode cX2_duet 113 = .ok (.iconst 2, 1) := dk_5 (dk_at dksX2_duet_4 17 rfl rfl)
theorem dX2_duet_114 : decode cX2_duet 114 = .ok (.irem, 1) := dk_112 (dk_at dksX2_duet_4 18 rfl rfl)
theorem dX2_duet_115 : decode cX2_duet 115 = .ok (.iadd, 1) := dk_96 (dk_at dksX2_duet_4 19 rfl rfl)
theorem dX2_duet_116 : decode cX2_duet 116 = .ok (.aload_n 0, 1) := dk_42 (dk_at dksX2_duet_4 20 rfl rfl)
theorem dX2_duet_117 : decode cX2_duet 117 = .ok (.iload_n 2, 1) := dk_28 (dk_at dksX2_duet_4 21 rfl rfl)
theorem dX2_duet_118 : decode cX2_duet 118 = .ok (.iload 4, 2) := dk_21 4 (dk_at dksX2_duet_4 22 rfl rfl)
theorem dX2_duet_120 : decode cX2_duet 120 = .ok (.invokevirtual 101, 3) := dk_182 0 101 (dk_at dksX2_duet_5 0 rfl rfl)
theorem dX2_duet_123 : decode cX2_duet 123 = .ok (.invokevirtual 155, 3) := dk_182 0 155 (dk_at dksX2_duet_5 3 rfl rfl)
theorem dX2_duet_126 : decode cX2_duet 126 = .ok (.ifCond .eq 26, 3) := dk_153 0 26 (dk_at dksX2_duet_5 6 rfl rfl)
theorem dX2_duet_129 : decode cX2_duet 129 = .ok (.aload_n 0, 1) := dk_42 (dk_at dksX2_duet_5 9 rfl rfl)
theorem dX2_duet_130 : decode cX2_duet 130 = .ok (.iconst 1, 1) := dk_4 (dk_at dksX2_duet_5 10 rfl rfl)
theorem dX2_duet_131 : decode cX2_duet 131 = .ok (.iload 4, 2) := dk_21 4 (dk_at dksX2_duet_5 11 rfl rfl)
theorem dX2_duet_133 : decode cX2_duet 133 = .ok (.iconst 2, 1) := dk_5 (dk_at dksX2_duet_5 13 rfl rfl)
theorem dX2_duet_134 : decode cX2_duet 134 = .ok (.irem, 1) := dk_112 (dk_at dksX2_duet_5 14 rfl rfl)
theorem dX2_duet_135 : decode cX2_duet 135 = .ok (.iadd, 1) := dk_96 (dk_at dksX2_duet_5 15 rfl rfl)
theorem dX2_duet_136 : decode cX2_duet 136 = .ok (.aload_n 0, 1) := dk_42 (dk_at dksX2_duet_5 16 rfl rfl)
theorem dX2_duet_137 : decode cX2_duet 137 = .ok (.iload_n 2, 1) := dk_28 (dk_at dksX2_duet_5 17 rfl rfl)
theorem dX2_duet_138 : decode cX2_duet 138 = .ok (.iload 4, 2) := dk_21 4 (dk_at dksX2_duet_5 18 rfl rfl)
theorem dX2_duet_140 : decode cX2_duet 140 = .ok (.invokevirtual 101, 3) := dk_182 0 101 (dk_at dksX2_duet_5 20 rfl rfl)
theorem dX2_duet_143 : decode cX2_duet 143 = .ok (.invokevirtual 192, 3) := dk_182 0 192 (dk_at dksX2_duet_6 0 rfl rfl)
theorem dX2_duet_146 : decode cX2_duet 146 = .ok (.iinc 4 1, 3) := dk_132 4 1 (dk_at dksX2_duet_6 3 rfl rfl)
theorem dX2_duet_149 : decode cX2_duet 149 = .ok (.goto (-51), 3) := dk_167 255 205 (dk_at dksX2_duet_6 6 rfl rfl)
theorem dX2_duet_152 : decode cX2_duet 152 = .ok (.iload 4, 2) := dk_21 4 (dk_at dksX2_duet_6 9 rfl rfl)
theorem dX2_duet_154 : decode cX2_duet 154 = .ok (.ireturn, 1) := dk_172 (dk_at dksX2_duet_6 11 rfl rfl)
abbrev cX2_most : ByteArray := prog_11_method_73_code
def yX2_most : MethodName := ⟨RX2, "most", "(I)I"⟩
def dkwX2_most_1 : List UInt8 := [42, 3, 3, 182, 0, 235, 42, 27, 42, 180, 0, 70, 42, 180, 0, 225, 182, 0, 221, 42, 180, 0, 225, 172]
abbrev dktX2_most_1 : List UInt8 := dkwX2_most_1 ++ []
def dkwX2_most_0 : List UInt8 := [27, 184, 0, 93, 154, 0, 5, 2, 172, 42, 180, 0, 142, 154, 0, 6, 16, 252, 172, 42, 3, 181, 0, 225]
abbrev dktX2_most_0 : List UInt8 := dkwX2_most_0 ++ dktX2_most_1
theorem dksX2_most_0 : cX2_most.data.toList.drop 0 = dktX2_most_0 := by decide +kernel
theorem dksX2_most_1 : cX2_most.data.toList.drop 24 = dktX2_most_1 := dk_seg dksX2_most_0 24 rfl rfl
theorem dX2_most_0 : decode cX2_most 0 = .ok (.iload_n 1, 1) := dk_27 (dk_at dksX2_most_0 0 rfl rfl)
theorem dX2_most_1 : decode cX2_most 1 = .ok (.invokestatic 93, 3) := dk_184 0 93 (dk_at dksX2_most_0 1 rfl rfl)
theorem dX2_most_4 : decode cX2_most 4 = .ok (.ifCond .ne 5, 3) := dk_154 0 5 (dk_at dksX2_most_0 4 rfl rfl)
theorem dX2_most_7 : decode cX2_most 7 = .ok (.iconst (-1), 1) := dk_2 (dk_at dksX2_most_0 7 rfl rfl)
theorem dX2_most_8 : decode cX2_most 8 = .ok (.ireturn, 1) := dk_172 (dk_at dksX2_most_0 8 rfl rfl)
theorem dX2_most_9 : decode cX2_most 9 = .ok (.aload_n 0, 1) := dk_42 (dk_at dksX2_most_0 9 rfl rfl)
theorem dX2_most_10 : decode cX2_most 10 = .ok (.getfield 142, 3) := dk_180 0 142 (dk_at dksX2_most_0 10 rfl rfl)
theorem dX2_most_13 : decode cX2_most 13 = .ok (.ifCond .ne 6, 3) := dk_154 0 6 (dk_at dksX2_most_0 13 rfl rfl)
theorem dX2_most_16 : decode cX2_most 16 = .ok (.bipush (-4), 2) := dk_16 252 (dk_at dksX2_most_0 16 rfl rfl)
theorem dX2_most_18 : decode cX2_most 18 = .ok (.ireturn, 1) := dk_172 (dk_at dksX2_most_0 18 rfl rfl)
theorem dX2_most_19 : decode cX2_most 19 = .ok (.aload_n 0, 1) := dk_42 (dk_at dksX2_most_0 19 rfl rfl)
theorem dX2_most_20 : decode cX2_most 20 = .ok (.iconst 0, 1) := dk_3 (dk_at dksX2_most_0 20 rfl rfl)
theorem dX2_most_21 : decode cX2_most 21 = .ok (.putfield 225, 3) := dk_181 0 225 (dk_at dksX2_most_0 21 rfl rfl)
theorem dX2_most_24 : decode cX2_most 24 = .ok (.aload_n 0, 1) := dk_42 (dk_at dksX2_most_1 0 rfl rfl)
theorem dX2_most_25 : decode cX2_most 25 = .ok (.iconst 0, 1) := dk_3 (dk_at dksX2_most_1 1 rfl rfl)
theorem dX2_most_26 : decode cX2_most 26 = .ok (.iconst 0, 1) := dk_3 (dk_at dksX2_most_1 2 rfl rfl)
theorem dX2_most_27 : decode cX2_most 27 = .ok (.invokevirtual 235, 3) := dk_182 0 235 (dk_at dksX2_most_1 3 rfl rfl)
theorem dX2_most_30 : decode cX2_most 30 = .ok (.aload_n 0, 1) := dk_42 (dk_at dksX2_most_1 6 rfl rfl)
theorem dX2_most_31 : decode cX2_most 31 = .ok (.iload_n 1, 1) := dk_27 (dk_at dksX2_most_1 7 rfl rfl)
theorem dX2_most_32 : decode cX2_most 32 = .ok (.aload_n 0, 1) := dk_42 (dk_at dksX2_most_1 8 rfl rfl)
theorem dX2_most_33 : decode cX2_most 33 = .ok (.getfield 70, 3) := dk_180 0 70 (dk_at dksX2_most_1 9 rfl rfl)
theorem dX2_most_36 : decode cX2_most 36 = .ok (.aload_n 0, 1) := dk_42 (dk_at dksX2_most_1 12 rfl rfl)
theorem dX2_most_37 : decode cX2_most 37 = .ok (.getfield 225, 3) := dk_180 0 225 (dk_at dksX2_most_1 13 rfl rfl)
theorem dX2_most_40 : decode cX2_most 40 = .ok (.invokevirtual 221, 3) := dk_182 0 221 (dk_at dksX2_most_1 16 rfl rfl)
theorem dX2_most_43 : decode cX2_most 43 = .ok (.aload_n 0, 1) := dk_42 (dk_at dksX2_most_1 19 rfl rfl)
theorem dX2_most_44 : decode cX2_most 44 = .ok (.getfield 225, 3) := dk_180 0 225 (dk_at dksX2_most_1 20 rfl rfl)
theorem dX2_most_47 : decode cX2_most 47 = .ok (.ireturn, 1) := dk_172 (dk_at dksX2_most_1 23 rfl rfl)
abbrev cX2_layMost : ByteArray := prog_11_method_72_code
def yX2_layMost : MethodName := ⟨RX2, "layMost", "(II)V"⟩
def dkwX2_layMost_3 : List UInt8 := [4, 96, 28, 4, 29, 120, 128, 182, 0, 235, 132, 3, 1, 167, 255, 193, 177]
abbrev dktX2_layMost_3 : List UInt8 := dkwX2_layMost_3 ++ []
def dkwX2_layMost_2 : List UInt8 := [27, 27, 4, 96, 182, 0, 212, 42, 27, 4, 96, 29, 182, 0, 192, 42, 180, 0, 67, 27, 29, 79, 42, 27]
abbrev dktX2_layMost_2 : List UInt8 := dkwX2_layMost_2 ++ dktX2_layMost_3
def dkwX2_layMost_1 : List UInt8 := [180, 0, 142, 162, 0, 61, 28, 29, 184, 0, 232, 154, 0, 47, 42, 27, 29, 182, 0, 155, 153, 0, 38, 42]
abbrev dktX2_layMost_1 : List UInt8 := dkwX2_layMost_1 ++ dktX2_layMost_2
def dkwX2_layMost_0 : List UInt8 := [27, 42, 180, 0, 225, 164, 0, 13, 42, 27, 181, 0, 225, 42, 27, 182, 0, 228, 3, 62, 29, 42]
abbrev dktX2_layMost_0 : List UInt8 := dkwX2_layMost_0 ++ dktX2_layMost_1
theorem dksX2_layMost_0 : cX2_layMost.data.toList.drop 0 = dktX2_layMost_0 := by decide +kernel
theorem dksX2_layMost_1 : cX2_layMost.data.toList.drop 22 = dktX2_layMost_1 := dk_seg dksX2_layMost_0 22 rfl rfl
theorem dksX2_layMost_2 : cX2_layMost.data.toList.drop 46 = dktX2_layMost_2 := dk_seg dksX2_layMost_1 24 rfl rfl
theorem dksX2_layMost_3 : cX2_layMost.data.toList.drop 70 = dktX2_layMost_3 := dk_seg dksX2_layMost_2 24 rfl rfl
theorem dX2_layMost_0 : decode cX2_layMost 0 = .ok (.iload_n 1, 1) := dk_27 (dk_at dksX2_layMost_0 0 rfl rfl)
theorem dX2_layMost_1 : decode cX2_layMost 1 = .ok (.aload_n 0, 1) := dk_42 (dk_at dksX2_layMost_0 1 rfl rfl)
theorem dX2_layMost_2 : decode cX2_layMost 2 = .ok (.getfield 225, 3) := dk_180 0 225 (dk_at dksX2_layMost_0 2 rfl rfl)
theorem dX2_layMost_5 : decode cX2_layMost 5 = .ok (.if_icmp .le 13, 3) := dk_164 0 13 (dk_at dksX2_layMost_0 5 rfl rfl)
theorem dX2_layMost_8 : decode cX2_layMost 8 = .ok (.aload_n 0, 1) := dk_42 (dk_at dksX2_layMost_0 8 rfl rfl)
theorem dX2_layMost_9 : decode cX2_layMost 9 = .ok (.iload_n 1, 1) := dk_27 (dk_at dksX2_layMost_0 9 rfl rfl)
theorem dX2_layMost_10 : decode cX2_layMost 10 = .ok (.putfield 225, 3) := dk_181 0 225 (dk_at dksX2_layMost_0 10 rfl rfl)
theorem dX2_layMost_13 : decode cX2_layMost 13 = .ok (.aload_n 0, 1) := dk_42 (dk_at dksX2_layMost_0 13 rfl rfl)
theorem dX2_layMost_14 : decode cX2_layMost 14 = .ok (.iload_n 1, 1) := dk_27 (dk_at dksX2_layMost_0 14 rfl rfl)
theorem dX2_layMost_15 : decode cX2_layMost 15 = .ok (.invokevirtual 228, 3) := dk_182 0 228 (dk_at dksX2_layMost_0 15 rfl rfl)
theorem dX2_layMost_18 : decode cX2_layMost 18 = .ok (.iconst 0, 1) := dk_3 (dk_at dksX2_layMost_0 18 rfl rfl)
theorem dX2_layMost_19 : decode cX2_layMost 19 = .ok (.istore_n 3, 1) := dk_62 (dk_at dksX2_layMost_0 19 rfl rfl)
theorem dX2_layMost_20 : decode cX2_layMost 20 = .ok (.iload_n 3, 1) := dk_29 (dk_at dksX2_layMost_0 20 rfl rfl)
theorem dX2_layMost_21 : decode cX2_layMost 21 = .ok (.aload_n 0, 1) := dk_42 (dk_at dksX2_layMost_0 21 rfl rfl)
theorem dX2_layMost_22 : decode cX2_layMost 22 = .ok (.getfield 142, 3) := dk_180 0 142 (dk_at dksX2_layMost_1 0 rfl rfl)
theorem dX2_layMost_25 : decode cX2_layMost 25 = .ok (.if_icmp .ge 61, 3) := dk_162 0 61 (dk_at dksX2_layMost_1 3 rfl rfl)
theorem dX2_layMost_28 : decode cX2_layMost 28 = .ok (.iload_n 2, 1) := dk_28 (dk_at dksX2_layMost_1 6 rfl rfl)
theorem dX2_layMost_29 : decode cX2_layMost 29 = .ok (.iload_n 3, 1) := dk_29 (dk_at dksX2_layMost_1 7 rfl rfl)
theorem dX2_layMost_30 : decode cX2_layMost 30 = .ok (.invokestatic 232, 3) := dk_184 0 232 (dk_at dksX2_layMost_1 8 rfl rfl)
theorem dX2_layMost_33 : decode cX2_layMost 33 = .ok (.ifCond .ne 47, 3) := dk_154 0 47 (dk_at dksX2_layMost_1 11 rfl rfl)
theorem dX2_layMost_36 : decode cX2_layMost 36 = .ok (.aload_n 0, 1) := dk_42 (dk_at dksX2_layMost_1 14 rfl rfl)
theorem dX2_layMost_37 : decode cX2_layMost 37 = .ok (.iload_n 1, 1) := dk_27 (dk_at dksX2_layMost_1 15 rfl rfl)
theorem dX2_layMost_38 : decode cX2_layMost 38 = .ok (.iload_n 3, 1) := dk_29 (dk_at dksX2_layMost_1 16 rfl rfl)
theorem dX2_layMost_39 : decode cX2_layMost 39 = .ok (.invokevirtual 155, 3) := dk_182 0 155 (dk_at dksX2_layMost_1 17 rfl rfl)
theorem dX2_layMost_42 : decode cX2_layMost 42 = .ok (.ifCond .eq 38, 3) := dk_153 0 38 (dk_at dksX2_layMost_1 20 rfl rfl)
theorem dX2_layMost_45 : decode cX2_layMost 45 = .ok (.aload_n 0, 1) := dk_42 (dk_at dksX2_layMost_1 23 rfl rfl)
theorem dX2_layMost_46 : decode cX2_layMost 46 = .ok (.iload_n 1, 1) := dk_27 (dk_at dksX2_layMost_2 0 rfl rfl)
theorem dX2_layMost_47 : decode cX2_layMost 47 = .ok (.iload_n 1, 1) := dk_27 (dk_at dksX2_layMost_2 1 rfl rfl)
theorem dX2_layMost_48 : decode cX2_layMost 48 = .ok (.iconst 1, 1) := dk_4 (dk_at dksX2_layMost_2 2 rfl rfl)
theorem dX2_layMost_49 : decode cX2_layMost 49 = .ok (.iadd, 1) := dk_96 (dk_at dksX2_layMost_2 3 rfl rfl)
theorem dX2_layMost_50 : decode cX2_layMost 50 = .ok (.invokevirtual 212, 3) := dk_182 0 212 (dk_at dksX2_layMost_2 4 rfl rfl)
theorem dX2_layMost_53 : decode cX2_layMost 53 = .ok (.aload_n 0, 1) := dk_42 (dk_at dksX2_layMost_2 7 rfl rfl)
theorem dX2_layMost_54 : decode cX2_layMost 54 = .ok (.iload_n 1, 1) := dk_27 (dk_at dksX2_layMost_2 8 rfl rfl)
theorem dX2_layMost_55 : decode cX2_layMost 55 = .ok (.iconst 1, 1) := dk_4 (dk_at dksX2_layMost_2 9 rfl rfl)
theorem dX2_layMost_56 : decode cX2_layMost 56 = .ok (.iadd, 1) := dk_96 (dk_at dksX2_layMost_2 10 rfl rfl)
theorem dX2_layMost_57 : decode cX2_layMost 57 = .ok (.iload_n 3, 1) := dk_29 (dk_at dksX2_layMost_2 11 rfl rfl)
theorem dX2_layMost_58 : decode cX2_layMost 58 = .ok (.invokevirtual 192, 3) := dk_182 0 192 (dk_at dksX2_layMost_2 12 rfl rfl)
theorem dX2_layMost_61 : decode cX2_layMost 61 = .ok (.aload_n 0, 1) := dk_42 (dk_at dksX2_layMost_2 15 rfl rfl)
theorem dX2_layMost_62 : decode cX2_layMost 62 = .ok (.getfield 67, 3) := dk_180 0 67 (dk_at dksX2_layMost_2 16 rfl rfl)
theorem dX2_layMost_65 : decode cX2_layMost 65 = .ok (.iload_n 1, 1) := dk_27 (dk_at dksX2_layMost_2 19 rfl rfl)
theorem dX2_layMost_66 : decode cX2_layMost 66 = .ok (.iload_n 3, 1) := dk_29 (dk_at dksX2_layMost_2 20 rfl rfl)
theorem dX2_layMost_67 : decode cX2_layMost 67 = .ok (.iastore, 1) := dk_79 (dk_at dksX2_layMost_2 21 rfl rfl)
theorem dX2_layMost_68 : decode cX2_layMost 68 = .ok (.aload_n 0, 1) := dk_42 (dk_at dksX2_layMost_2 22 rfl rfl)
theorem dX2_layMost_69 : decode cX2_layMost 69 = .ok (.iload_n 1, 1) := dk_27 (dk_at dksX2_layMost_2 23 rfl rfl)
theorem dX2_layMost_70 : decode cX2_layMost 70 = .ok (.iconst 1, 1) := dk_4 (dk_at dksX2_layMost_3 0 rfl rfl)
theorem dX2_layMost_71 : decode cX2_layMost 71 = .ok (.iadd, 1) := dk_96 (dk_at dksX2_layMost_3 1 rfl rfl)
theorem dX2_layMost_72 : decode cX2_layMost 72 = .ok (.iload_n 2, 1) := dk_28 (dk_at dksX2_layMost_3 2 rfl rfl)
theorem dX2_layMost_73 : decode cX2_layMost 73 = .ok (.iconst 1, 1) := dk_4 (dk_at dksX2_layMost_3 3 rfl rfl)
theorem dX2_layMost_74 : decode cX2_layMost 74 = .ok (.iload_n 3, 1) := dk_29 (dk_at dksX2_layMost_3 4 rfl rfl)
theorem dX2_layMost_75 : decode cX2_layMost 75 = .ok (.ishl, 1) := dk_120 (dk_at dksX2_layMost_3 5 rfl rfl)
theorem dX2_layMost_76 : decode cX2_layMost 76 = .ok (.ior, 1) := dk_128 (dk_at dksX2_layMost_3 6 rfl rfl)
theorem dX2_layMost_77 : decode cX2_layMost 77 = .ok (.invokevirtual 235, 3) := dk_182 0 235 (dk_at dksX2_layMost_3 7 rfl rfl)
theorem dX2_layMost_80 : decode cX2_layMost 80 = .ok (.iinc 3 1, 3) := dk_132 3 1 (dk_at dksX2_layMost_3 10 rfl rfl)
theorem dX2_layMost_83 : decode cX2_layMost 83 = .ok (.goto (-63), 3) := dk_167 255 193 (dk_at dksX2_layMost_3 13 rfl rfl)
theorem dX2_layMost_86 : decode cX2_layMost 86 = .ok (.return_, 1) := dk_177 (dk_at dksX2_layMost_3 16 rfl rfl)
abbrev cX2_takeTried : ByteArray := prog_11_method_71_code
def yX2_takeTried : MethodName := ⟨RX2, "takeTried", "(I)V"⟩
def dkwX2_takeTried_1 : List UInt8 := [167, 255, 236, 177]
abbrev dktX2_takeTried_1 : List UInt8 := dkwX2_takeTried_1 ++ []
def dkwX2_takeTried_0 : List UInt8 := [3, 61, 28, 27, 162, 0, 21, 42, 180, 0, 70, 28, 42, 180, 0, 67, 28, 46, 79, 132, 2, 1]
abbrev dktX2_takeTried_0 : List UInt8 := dkwX2_takeTried_0 ++ dktX2_takeTried_1
theorem dksX2_takeTried_0 : cX2_takeTried.data.toList.drop 0 = dktX2_takeTried_0 := by decide +kernel
theorem dksX2_takeTried_1 : cX2_takeTried.data.toList.drop 22 = dktX2_takeTried_1 := dk_seg dksX2_takeTried_0 22 rfl rfl
theorem dX2_takeTried_0 : decode cX2_takeTried 0 = .ok (.iconst 0, 1) := dk_3 (dk_at dksX2_takeTried_0 0 rfl rfl)
theorem dX2_takeTried_1 : decode cX2_takeTried 1 = .ok (.istore_n 2, 1) := dk_61 (dk_at dksX2_takeTried_0 1 rfl rfl)
theorem dX2_takeTried_2 : decode cX2_takeTried 2 = .ok (.iload_n 2, 1) := dk_28 (dk_at dksX2_takeTried_0 2 rfl rfl)
theorem dX2_takeTried_3 : decode cX2_takeTried 3 = .ok (.iload_n 1, 1) := dk_27 (dk_at dksX2_takeTried_0 3 rfl rfl)
theorem dX2_takeTried_4 : decode cX2_takeTried 4 = .ok (.if_icmp .ge 21, 3) := dk_162 0 21 (dk_at dksX2_takeTried_0 4 rfl rfl)
theorem dX2_takeTried_7 : decode cX2_takeTried 7 = .ok (.aload_n 0, 1) := dk_42 (dk_at dksX2_takeTried_0 7 rfl rfl)
theorem dX2_takeTried_8 : decode cX2_takeTried 8 = .ok (.getfield 70, 3) := dk_180 0 70 (dk_at dksX2_takeTried_0 8 rfl rfl)
theorem dX2_takeTried_11 : decode cX2_takeTried 11 = .ok (.iload_n 2, 1) := dk_28 (dk_at dksX2_takeTried_0 11 rfl rfl)
theorem dX2_takeTried_12 : decode cX2_takeTried 12 = .ok (.aload_n 0, 1) := dk_42 (dk_at dksX2_takeTried_0 12 rfl rfl)
theorem dX2_takeTried_13 : decode cX2_takeTried 13 = .ok (.getfield 67, 3) := dk_180 0 67 (dk_at dksX2_takeTried_0 13 rfl rfl)
theorem dX2_takeTried_16 : decode cX2_takeTried 16 = .ok (.iload_n 2, 1) := dk_28 (dk_at dksX2_takeTried_0 16 rfl rfl)
theorem dX2_takeTried_17 : decode cX2_takeTried 17 = .ok (.iaload, 1) := dk_46 (dk_at dksX2_takeTried_0 17 rfl rfl)
theorem dX2_takeTried_18 : decode cX2_takeTried 18 = .ok (.iastore, 1) := dk_79 (dk_at dksX2_takeTried_0 18 rfl rfl)
theorem dX2_takeTried_19 : decode cX2_takeTried 19 = .ok (.iinc 2 1, 3) := dk_132 2 1 (dk_at dksX2_takeTried_0 19 rfl rfl)
theorem dX2_takeTried_22 : decode cX2_takeTried 22 = .ok (.goto (-20), 3) := dk_167 255 236 (dk_at dksX2_takeTried_1 0 rfl rfl)
theorem dX2_takeTried_25 : decode cX2_takeTried 25 = .ok (.return_, 1) := dk_177 (dk_at dksX2_takeTried_1 3 rfl rfl)
abbrev cX2_has : ByteArray := prog_11_method_3_code
def yX2_has : MethodName := ⟨RX2, "has", "(II)Z"⟩
def dkwX2_has_0 : List UInt8 := [26, 27, 122, 4, 126, 4, 160, 0, 7, 4, 167, 0, 4, 3, 172]
abbrev dktX2_has_0 : List UInt8 := dkwX2_has_0 ++ []
theorem dksX2_has_0 : cX2_has.data.toList.drop 0 = dktX2_has_0 := by decide +kernel
theorem dX2_has_0 : decode cX2_has 0 = .ok (.iload_n 0, 1) := dk_26 (dk_at dksX2_has_0 0 rfl rfl)
theorem dX2_has_1 : decode cX2_has 1 = .ok (.iload_n 1, 1) := dk_27 (dk_at dksX2_has_0 1 rfl rfl)
theorem dX2_has_2 : decode cX2_has 2 = .ok (.ishr, 1) := dk_122 (dk_at dksX2_has_0 2 rfl rfl)
theorem dX2_has_3 : decode cX2_has 3 = .ok (.iconst 1, 1) := dk_4 (dk_at dksX2_has_0 3 rfl rfl)
theorem dX2_has_4 : decode cX2_has 4 = .ok (.iand, 1) := dk_126 (dk_at dksX2_has_0 4 rfl rfl)
theorem dX2_has_5 : decode cX2_has 5 = .ok (.iconst 1, 1) := dk_4 (dk_at dksX2_has_0 5 rfl rfl)
theorem dX2_has_6 : decode cX2_has 6 = .ok (.if_icmp .ne 7, 3) := dk_160 0 7 (dk_at dksX2_has_0 6 rfl rfl)
theorem dX2_has_9 : decode cX2_has 9 = .ok (.iconst 1, 1) := dk_4 (dk_at dksX2_has_0 9 rfl rfl)
theorem dX2_has_10 : decode cX2_has 10 = .ok (.goto 4, 3) := dk_167 0 4 (dk_at dksX2_has_0 10 rfl rfl)
theorem dX2_has_13 : decode cX2_has 13 = .ok (.iconst 0, 1) := dk_3 (dk_at dksX2_has_0 13 rfl rfl)
theorem dX2_has_14 : decode cX2_has 14 = .ok (.ireturn, 1) := dk_172 (dk_at dksX2_has_0 14 rfl rfl)
abbrev cX2_best : ByteArray := prog_11_method_75_code
def yX2_best : MethodName := ⟨RX2, "best", "(II)I"⟩
def dkwX2_best_2 : List UInt8 := [16, 247, 172, 42, 28, 42, 180, 0, 70, 27, 182, 0, 221, 42, 180, 0, 238, 172]
abbrev dktX2_best_2 : List UInt8 := dkwX2_best_2 ++ []
def dkwX2_best_1 : List UInt8 := [154, 0, 6, 16, 252, 172, 42, 2, 181, 0, 238, 42, 3, 27, 182, 0, 241, 42, 180, 0, 238, 156, 0, 6]
abbrev dktX2_best_1 : List UInt8 := dkwX2_best_1 ++ dktX2_best_2
def dkwX2_best_0 : List UInt8 := [27, 3, 8, 184, 0, 83, 153, 0, 10, 28, 184, 0, 93, 154, 0, 5, 2, 172, 42, 180, 0, 142]
abbrev dktX2_best_0 : List UInt8 := dkwX2_best_0 ++ dktX2_best_1
theorem dksX2_best_0 : cX2_best.data.toList.drop 0 = dktX2_best_0 := by decide +kernel
theorem dksX2_best_1 : cX2_best.data.toList.drop 22 = dktX2_best_1 := dk_seg dksX2_best_0 22 rfl rfl
theorem dksX2_best_2 : cX2_best.data.toList.drop 46 = dktX2_best_2 := dk_seg dksX2_best_1 24 rfl rfl
theorem dX2_best_0 : decode cX2_best 0 = .ok (.iload_n 1, 1) := dk_27 (dk_at dksX2_best_0 0 rfl rfl)
theorem dX2_best_1 : decode cX2_best 1 = .ok (.iconst 0, 1) := dk_3 (dk_at dksX2_best_0 1 rfl rfl)
theorem dX2_best_2 : decode cX2_best 2 = .ok (.iconst 5, 1) := dk_8 (dk_at dksX2_best_0 2 rfl rfl)
theorem dX2_best_3 : decode cX2_best 3 = .ok (.invokestatic 83, 3) := dk_184 0 83 (dk_at dksX2_best_0 3 rfl rfl)
theorem dX2_best_6 : decode cX2_best 6 = .ok (.ifCond .eq 10, 3) := dk_153 0 10 (dk_at dksX2_best_0 6 rfl rfl)
theorem dX2_best_9 : decode cX2_best 9 = .ok (.iload_n 2, 1) := dk_28 (dk_at dksX2_best_0 9 rfl rfl)
theorem dX2_best_10 : decode cX2_best 10 = .ok (.invokestatic 93, 3) := dk_184 0 93 (dk_at dksX2_best_0 10 rfl rfl)
theorem dX2_best_13 : decode cX2_best 13 = .ok (.ifCond .ne 5, 3) := dk_154 0 5 (dk_at dksX2_best_0 13 rfl rfl)
theorem dX2_best_16 : decode cX2_best 16 = .ok (.iconst (-1), 1) := dk_2 (dk_at dksX2_best_0 16 rfl rfl)
theorem dX2_best_17 : decode cX2_best 17 = .ok (.ireturn, 1) := dk_172 (dk_at dksX2_best_0 17 rfl rfl)
theorem dX2_best_18 : decode cX2_best 18 = .ok (.aload_n 0, 1) := dk_42 (dk_at dksX2_best_0 18 rfl rfl)
theorem dX2_best_19 : decode cX2_best 19 = .ok (.getfield 142, 3) := dk_180 0 142 (dk_at dksX2_best_0 19 rfl rfl)
theorem dX2_best_22 : decode cX2_best 22 = .ok (.ifCond .ne 6, 3) := dk_154 0 6 (dk_at dksX2_best_1 0 rfl rfl)
theorem dX2_best_25 : decode cX2_best 25 = .ok (.bipush (-4), 2) := dk_16 252 (dk_at dksX2_best_1 3 rfl rfl)
theorem dX2_best_27 : decode cX2_best 27 = .ok (.ireturn, 1) := dk_172 (dk_at dksX2_best_1 5 rfl rfl)
theorem dX2_best_28 : decode cX2_best 28 = .ok (.aload_n 0, 1) := dk_42 (dk_at dksX2_best_1 6 rfl rfl)
theorem dX2_best_29 : decode cX2_best 29 = .ok (.iconst (-1), 1) := dk_2 (dk_at dksX2_best_1 7 rfl rfl)
theorem dX2_best_30 : decode cX2_best 30 = .ok (.putfield 238, 3) := dk_181 0 238 (dk_at dksX2_best_1 8 rfl rfl)
theorem dX2_best_33 : decode cX2_best 33 = .ok (.aload_n 0, 1) := dk_42 (dk_at dksX2_best_1 11 rfl rfl)
theorem dX2_best_34 : decode cX2_best 34 = .ok (.iconst 0, 1) := dk_3 (dk_at dksX2_best_1 12 rfl rfl)
theorem dX2_best_35 : decode cX2_best 35 = .ok (.iload_n 1, 1) := dk_27 (dk_at dksX2_best_1 13 rfl rfl)
theorem dX2_best_36 : decode cX2_best 36 = .ok (.invokevirtual 241, 3) := dk_182 0 241 (dk_at dksX2_best_1 14 rfl rfl)
theorem dX2_best_39 : decode cX2_best 39 = .ok (.aload_n 0, 1) := dk_42 (dk_at dksX2_best_1 17 rfl rfl)
theorem dX2_best_40 : decode cX2_best 40 = .ok (.getfield 238, 3) := dk_180 0 238 (dk_at dksX2_best_1 18 rfl rfl)
theorem dX2_best_43 : decode cX2_best 43 = .ok (.ifCond .ge 6, 3) := dk_156 0 6 (dk_at dksX2_best_1 21 rfl rfl)
theorem dX2_best_46 : decode cX2_best 46 = .ok (.bipush (-9), 2) := dk_16 247 (dk_at dksX2_best_2 0 rfl rfl)
theorem dX2_best_48 : decode cX2_best 48 = .ok (.ireturn, 1) := dk_172 (dk_at dksX2_best_2 2 rfl rfl)
theorem dX2_best_49 : decode cX2_best 49 = .ok (.aload_n 0, 1) := dk_42 (dk_at dksX2_best_2 3 rfl rfl)
theorem dX2_best_50 : decode cX2_best 50 = .ok (.iload_n 2, 1) := dk_28 (dk_at dksX2_best_2 4 rfl rfl)
theorem dX2_best_51 : decode cX2_best 51 = .ok (.aload_n 0, 1) := dk_42 (dk_at dksX2_best_2 5 rfl rfl)
theorem dX2_best_52 : decode cX2_best 52 = .ok (.getfield 70, 3) := dk_180 0 70 (dk_at dksX2_best_2 6 rfl rfl)
theorem dX2_best_55 : decode cX2_best 55 = .ok (.iload_n 1, 1) := dk_27 (dk_at dksX2_best_2 9 rfl rfl)
theorem dX2_best_56 : decode cX2_best 56 = .ok (.invokevirtual 221, 3) := dk_182 0 221 (dk_at dksX2_best_2 10 rfl rfl)
theorem dX2_best_59 : decode cX2_best 59 = .ok (.aload_n 0, 1) := dk_42 (dk_at dksX2_best_2 13 rfl rfl)
theorem dX2_best_60 : decode cX2_best 60 = .ok (.getfield 238, 3) := dk_180 0 238 (dk_at dksX2_best_2 14 rfl rfl)
theorem dX2_best_63 : decode cX2_best 63 = .ok (.ireturn, 1) := dk_172 (dk_at dksX2_best_2 17 rfl rfl)
abbrev cX2_layBest : ByteArray := prog_11_method_74_code
def yX2_layBest : MethodName := ⟨RX2, "layBest", "(II)V"⟩
def dkwX2_layBest_4 : List UInt8 := [167, 255, 205, 177]
abbrev dktX2_layBest_4 : List UInt8 := dkwX2_layBest_4 ++ []
def dkwX2_layBest_3 : List UInt8 := [29, 182, 0, 192, 42, 180, 0, 67, 27, 29, 79, 42, 27, 4, 96, 28, 182, 0, 241, 132, 3, 1]
abbrev dktX2_layBest_3 : List UInt8 := dkwX2_layBest_3 ++ dktX2_layBest_4
def dkwX2_layBest_2 : List UInt8 := [162, 0, 49, 42, 27, 29, 182, 0, 155, 153, 0, 34, 42, 27, 27, 4, 96, 182, 0, 212, 42, 27, 4, 96]
abbrev dktX2_layBest_2 : List UInt8 := dkwX2_layBest_2 ++ dktX2_layBest_3
def dkwX2_layBest_1 : List UInt8 := [180, 0, 238, 164, 0, 13, 42, 29, 181, 0, 238, 42, 28, 182, 0, 228, 177, 3, 62, 29, 42, 180, 0, 142]
abbrev dktX2_layBest_1 : List UInt8 := dkwX2_layBest_1 ++ dktX2_layBest_2
def dkwX2_layBest_0 : List UInt8 := [27, 28, 160, 0, 38, 42, 27, 16, 8, 182, 0, 152, 42, 3, 16, 8, 182, 0, 152, 100, 62, 29, 42]
abbrev dktX2_layBest_0 : List UInt8 := dkwX2_layBest_0 ++ dktX2_layBest_1
theorem dksX2_layBest_0 : cX2_layBest.data.toList.drop 0 = dktX2_layBest_0 := by decide +kernel
theorem dksX2_layBest_1 : cX2_layBest.data.toList.drop 23 = dktX2_layBest_1 := dk_seg dksX2_layBest_0 23 rfl rfl
theorem dksX2_layBest_2 : cX2_layBest.data.toList.drop 47 = dktX2_layBest_2 := dk_seg dksX2_layBest_1 24 rfl rfl
theorem dksX2_layBest_3 : cX2_layBest.data.toList.drop 71 = dktX2_layBest_3 := dk_seg dksX2_layBest_2 24 rfl rfl
theorem dksX2_layBest_4 : cX2_layBest.data.toList.drop 93 = dktX2_layBest_4 := dk_seg dksX2_layBest_3 22 rfl rfl
theorem dX2_layBest_0 : decode cX2_layBest 0 = .ok (.iload_n 1, 1) := dk_27 (dk_at dksX2_layBest_0 0 rfl rfl)
theorem dX2_layBest_1 : decode cX2_layBest 1 = .ok (.iload_n 2, 1) := dk_28 (dk_at dksX2_layBest_0 1 rfl rfl)
theorem dX2_layBest_2 : decode cX2_layBest 2 = .ok (.if_icmp .ne 38, 3) := dk_160 0 38 (dk_at dksX2_layBest_0 2 rfl rfl)
theorem dX2_layBest_5 : decode cX2_layBest 5 = .ok (.aload_n 0, 1) := dk_42 (dk_at dksX2_layBest_0 5 rfl rfl)
theorem dX2_layBest_6 : decode cX2_layBest 6 = .ok (.iload_n 1, 1) := dk_27 (dk_at dksX2_layBest_0 6 rfl rfl)
theorem dX2_layBest_7 : decode cX2_layBest 7 = .ok (.bipush 8, 2) := dk_16 8 (dk_at dksX2_layBest_0 7 rfl rfl)
theorem dX2_layBest_9 : decode cX2_layBest 9 = .ok (.invokevirtual 152, 3) := dk_182 0 152 (dk_at dksX2_layBest_0 9 rfl rfl)
theorem dX2_layBest_12 : decode cX2_layBest 12 = .ok (.aload_n 0, 1) := dk_42 (dk_at dksX2_layBest_0 12 rfl rfl)
theorem dX2_layBest_13 : decode cX2_layBest 13 = .ok (.iconst 0, 1) := dk_3 (dk_at dksX2_layBest_0 13 rfl rfl)
theorem dX2_layBest_14 : decode cX2_layBest 14 = .ok (.bipush 8, 2) := dk_16 8 (dk_at dksX2_layBest_0 14 rfl rfl)
theorem dX2_layBest_16 : decode cX2_layBest 16 = .ok (.invokevirtual 152, 3) := dk_182 0 152 (dk_at dksX2_layBest_0 16 rfl rfl)
theorem dX2_layBest_19 : decode cX2_layBest 19 = .ok (.isub, 1) := dk_100 (dk_at dksX2_layBest_0 19 rfl rfl)
theorem dX2_layBest_20 : decode cX2_layBest 20 = .ok (.istore_n 3, 1) := dk_62 (dk_at dksX2_layBest_0 20 rfl rfl)
theorem dX2_layBest_21 : decode cX2_layBest 21 = .ok (.iload_n 3, 1) := dk_29 (dk_at dksX2_layBest_0 21 rfl rfl)
theorem dX2_layBest_22 : decode cX2_layBest 22 = .ok (.aload_n 0, 1) := dk_42 (dk_at dksX2_layBest_0 22 rfl rfl)
theorem dX2_layBest_23 : decode cX2_layBest 23 = .ok (.getfield 238, 3) := dk_180 0 238 (dk_at dksX2_layBest_1 0 rfl rfl)
theorem dX2_layBest_26 : decode cX2_layBest 26 = .ok (.if_icmp .le 13, 3) := dk_164 0 13 (dk_at dksX2_layBest_1 3 rfl rfl)
theorem dX2_layBest_29 : decode cX2_layBest 29 = .ok (.aload_n 0, 1) := dk_42 (dk_at dksX2_layBest_1 6 rfl rfl)
theorem dX2_layBest_30 : decode cX2_layBest 30 = .ok (.iload_n 3, 1) := dk_29 (dk_at dksX2_layBest_1 7 rfl rfl)
theorem dX2_layBest_31 : decode cX2_layBest 31 = .ok (.putfield 238, 3) := dk_181 0 238 (dk_at dksX2_layBest_1 8 rfl rfl)
theorem dX2_layBest_34 : decode cX2_layBest 34 = .ok (.aload_n 0, 1) := dk_42 (dk_at dksX2_layBest_1 11 rfl rfl)
theorem dX2_layBest_35 : decode cX2_layBest 35 = .ok (.iload_n 2, 1) := dk_28 (dk_at dksX2_layBest_1 12 rfl rfl)
theorem dX2_layBest_36 : decode cX2_layBest 36 = .ok (.invokevirtual 228, 3) := dk_182 0 228 (dk_at dksX2_layBest_1 13 rfl rfl)
theorem dX2_layBest_39 : decode cX2_layBest 39 = .ok (.return_, 1) := dk_177 (dk_at dksX2_layBest_1 16 rfl rfl)
theorem dX2_layBest_40 : decode cX2_layBest 40 = .ok (.iconst 0, 1) := dk_3 (dk_at dksX2_layBest_1 17 rfl rfl)
theorem dX2_layBest_41 : decode cX2_layBest 41 = .ok (.istore_n 3, 1) := dk_62 (dk_at dksX2_layBest_1 18 rfl rfl)
theorem dX2_layBest_42 : decode cX2_layBest 42 = .ok (.iload_n 3, 1) := dk_29 (dk_at dksX2_layBest_1 19 rfl rfl)
theorem dX2_layBest_43 : decode cX2_layBest 43 = .ok (.aload_n 0, 1) := dk_42 (dk_at dksX2_layBest_1 20 rfl rfl)
theorem dX2_layBest_44 : decode cX2_layBest 44 = .ok (.getfield 142, 3) := dk_180 0 142 (dk_at dksX2_layBest_1 21 rfl rfl)
theorem dX2_layBest_47 : decode cX2_layBest 47 = .ok (.if_icmp .ge 49, 3) := dk_162 0 49 (dk_at dksX2_layBest_2 0 rfl rfl)
theorem dX2_layBest_50 : decode cX2_layBest 50 = .ok (.aload_n 0, 1) := dk_42 (dk_at dksX2_layBest_2 3 rfl rfl)
theorem dX2_layBest_51 : decode cX2_layBest 51 = .ok (.iload_n 1, 1) := dk_27 (dk_at dksX2_layBest_2 4 rfl rfl)
theorem dX2_layBest_52 : decode cX2_layBest 52 = .ok (.iload_n 3, 1) := dk_29 (dk_at dksX2_layBest_2 5 rfl rfl)
theorem dX2_layBest_53 : decode cX2_layBest 53 = .ok (.invokevirtual 155, 3) := dk_182 0 155 (dk_at dksX2_layBest_2 6 rfl rfl)
theorem dX2_layBest_56 : decode cX2_layBest 56 = .ok (.ifCond .eq 34, 3) := dk_153 0 34 (dk_at dksX2_layBest_2 9 rfl rfl)
theorem dX2_layBest_59 : decode cX2_layBest 59 = .ok (.aload_n 0, 1) := dk_42 (dk_at dksX2_layBest_2 12 rfl rfl)
theorem dX2_layBest_60 : decode cX2_layBest 60 = .ok (.iload_n 1, 1) := dk_27 (dk_at dksX2_layBest_2 13 rfl rfl)
theorem dX2_layBest_61 : decode cX2_layBest 61 = .ok (.iload_n 1, 1) := dk_27 (dk_at dksX2_layBest_2 14 rfl rfl)
theorem dX2_layBest_62 : decode cX2_layBest 62 = .ok (.iconst 1, 1) := dk_4 (dk_at dksX2_layBest_2 15 rfl rfl)
theorem dX2_layBest_63 : decode cX2_layBest 63 = .ok (.iadd, 1) := dk_96 (dk_at dksX2_layBest_2 16 rfl rfl)
theorem dX2_layBest_64 : decode cX2_layBest 64 = .ok (.invokevirtual 212, 3) := dk_182 0 212 (dk_at dksX2_layBest_2 17 rfl rfl)
theorem dX2_layBest_67 : decode cX2_layBest 67 = .ok (.aload_n 0, 1) := dk_42 (dk_at dksX2_layBest_2 20 rfl rfl)
theorem dX2_layBest_68 : decode cX2_layBest 68 = .ok (.iload_n 1, 1) := dk_27 (dk_at dksX2_layBest_2 21 rfl rfl)
theorem dX2_layBest_69 : decode cX2_layBest 69 = .ok (.iconst 1, 1) := dk_4 (dk_at dksX2_layBest_2 22 rfl rfl)
theorem dX2_layBest_70 : decode cX2_layBest 70 = .ok (.iadd, 1) := dk_96 (dk_at dksX2_layBest_2 23 rfl rfl)
theorem dX2_layBest_71 : decode cX2_layBest 71 = .ok (.iload_n 3, 1) := dk_29 (dk_at dksX2_layBest_3 0 rfl rfl)
theorem dX2_layBest_72 : decode cX2_layBest 72 = .ok (.invokevirtual 192, 3) := dk_182 0 192 (dk_at dksX2_layBest_3 1 rfl rfl)
theorem dX2_layBest_75 : decode cX2_layBest 75 = .ok (.aload_n 0, 1) := dk_42 (dk_at dksX2_layBest_3 4 rfl rfl)
theorem dX2_layBest_76 : decode cX2_layBest 76 = .ok (.getfield 67, 3) := dk_180 0 67 (dk_at dksX2_layBest_3 5 rfl rfl)
theorem dX2_layBest_79 : decode cX2_layBest 79 = .ok (.iload_n 1, 1) := dk_27 (dk_at dksX2_layBest_3 8 rfl rfl)
theorem dX2_layBest_80 : decode cX2_layBest 80 = .ok (.iload_n 3, 1) := dk_29 (dk_at dksX2_layBest_3 9 rfl rfl)
theorem dX2_layBest_81 : decode cX2_layBest 81 = .ok (.iastore, 1) := dk_79 (dk_at dksX2_layBest_3 10 rfl rfl)
theorem dX2_layBest_82 : decode cX2_layBest 82 = .ok (.aload_n 0, 1) := dk_42 (dk_at dksX2_layBest_3 11 rfl rfl)
theorem dX2_layBest_83 : decode cX2_layBest 83 = .ok (.iload_n 1, 1) := dk_27 (dk_at dksX2_layBest_3 12 rfl rfl)
theorem dX2_layBest_84 : decode cX2_layBest 84 = .ok (.iconst 1, 1) := dk_4 (dk_at dksX2_layBest_3 13 rfl rfl)
theorem dX2_layBest_85 : decode cX2_layBest 85 = .ok (.iadd, 1) := dk_96 (dk_at dksX2_layBest_3 14 rfl rfl)
theorem dX2_layBest_86 : decode cX2_layBest 86 = .ok (.iload_n 2, 1) := dk_28 (dk_at dksX2_layBest_3 15 rfl rfl)
theorem dX2_layBest_87 : decode cX2_layBest 87 = .ok (.invokevirtual 241, 3) := dk_182 0 241 (dk_at dksX2_layBest_3 16 rfl rfl)
theorem dX2_layBest_90 : decode cX2_layBest 90 = .ok (.iinc 3 1, 3) := dk_132 3 1 (dk_at dksX2_layBest_3 19 rfl rfl)
theorem dX2_layBest_93 : decode cX2_layBest 93 = .ok (.goto (-51), 3) := dk_167 255 205 (dk_at dksX2_layBest_4 0 rfl rfl)
theorem dX2_layBest_96 : decode cX2_layBest 96 = .ok (.return_, 1) := dk_177 (dk_at dksX2_layBest_4 3 rfl rfl)
abbrev cX2_rows : ByteArray := prog_11_method_78_code
def yX2_rows : MethodName := ⟨RX2, "rows", "(I)I"⟩
def dkwX2_rows_2 : List UInt8 := [182, 0, 105, 172]
abbrev dktX2_rows_2 : List UInt8 := dkwX2_rows_2 ++ []
def dkwX2_rows_1 : List UInt8 := [181, 0, 247, 42, 3, 181, 0, 244, 42, 3, 27, 182, 0, 253, 42, 42, 180, 0, 244, 42, 180, 0, 247]
abbrev dktX2_rows_1 : List UInt8 := dkwX2_rows_1 ++ dktX2_rows_2
def dkwX2_rows_0 : List UInt8 := [27, 3, 7, 184, 0, 83, 154, 0, 5, 2, 172, 42, 180, 0, 142, 154, 0, 6, 16, 252, 172, 42, 3]
abbrev dktX2_rows_0 : List UInt8 := dkwX2_rows_0 ++ dktX2_rows_1
theorem dksX2_rows_0 : cX2_rows.data.toList.drop 0 = dktX2_rows_0 := by decide +kernel
theorem dksX2_rows_1 : cX2_rows.data.toList.drop 23 = dktX2_rows_1 := dk_seg dksX2_rows_0 23 rfl rfl
theorem dksX2_rows_2 : cX2_rows.data.toList.drop 46 = dktX2_rows_2 := dk_seg dksX2_rows_1 23 rfl rfl
theorem dX2_rows_0 : decode cX2_rows 0 = .ok (.iload_n 1, 1) := dk_27 (dk_at dksX2_rows_0 0 rfl rfl)
theorem dX2_rows_1 : decode cX2_rows 1 = .ok (.iconst 0, 1) := dk_3 (dk_at dksX2_rows_0 1 rfl rfl)
theorem dX2_rows_2 : decode cX2_rows 2 = .ok (.iconst 4, 1) := dk_7 (dk_at dksX2_rows_0 2 rfl rfl)
theorem dX2_rows_3 : decode cX2_rows 3 = .ok (.invokestatic 83, 3) := dk_184 0 83 (dk_at dksX2_rows_0 3 rfl rfl)
theorem dX2_rows_6 : decode cX2_rows 6 = .ok (.ifCond .ne 5, 3) := dk_154 0 5 (dk_at dksX2_rows_0 6 rfl rfl)
theorem dX2_rows_9 : decode cX2_rows 9 = .ok (.iconst (-1), 1) := dk_2 (dk_at dksX2_rows_0 9 rfl rfl)
theorem dX2_rows_10 : decode cX2_rows 10 = .ok (.ireturn, 1) := dk_172 (dk_at dksX2_rows_0 10 rfl rfl)
theorem dX2_rows_11 : decode cX2_rows 11 = .ok (.aload_n 0, 1) := dk_42 (dk_at dksX2_rows_0 11 rfl rfl)
theorem dX2_rows_12 : decode cX2_rows 12 = .ok (.getfield 142, 3) := dk_180 0 142 (dk_at dksX2_rows_0 12 rfl rfl)
theorem dX2_rows_15 : decode cX2_rows 15 = .ok (.ifCond .ne 6, 3) := dk_154 0 6 (dk_at dksX2_rows_0 15 rfl rfl)
theorem dX2_rows_18 : decode cX2_rows 18 = .ok (.bipush (-4), 2) := dk_16 252 (dk_at dksX2_rows_0 18 rfl rfl)
theorem dX2_rows_20 : decode cX2_rows 20 = .ok (.ireturn, 1) := dk_172 (dk_at dksX2_rows_0 20 rfl rfl)
theorem dX2_rows_21 : decode cX2_rows 21 = .ok (.aload_n 0, 1) := dk_42 (dk_at dksX2_rows_0 21 rfl rfl)
theorem dX2_rows_22 : decode cX2_rows 22 = .ok (.iconst 0, 1) := dk_3 (dk_at dksX2_rows_0 22 rfl rfl)
theorem dX2_rows_23 : decode cX2_rows 23 = .ok (.putfield 247, 3) := dk_181 0 247 (dk_at dksX2_rows_1 0 rfl rfl)
theorem dX2_rows_26 : decode cX2_rows 26 = .ok (.aload_n 0, 1) := dk_42 (dk_at dksX2_rows_1 3 rfl rfl)
theorem dX2_rows_27 : decode cX2_rows 27 = .ok (.iconst 0, 1) := dk_3 (dk_at dksX2_rows_1 4 rfl rfl)
theorem dX2_rows_28 : decode cX2_rows 28 = .ok (.putfield 244, 3) := dk_181 0 244 (dk_at dksX2_rows_1 5 rfl rfl)
theorem dX2_rows_31 : decode cX2_rows 31 = .ok (.aload_n 0, 1) := dk_42 (dk_at dksX2_rows_1 8 rfl rfl)
theorem dX2_rows_32 : decode cX2_rows 32 = .ok (.iconst 0, 1) := dk_3 (dk_at dksX2_rows_1 9 rfl rfl)
theorem dX2_rows_33 : decode cX2_rows 33 = .ok (.iload_n 1, 1) := dk_27 (dk_at dksX2_rows_1 10 rfl rfl)
theorem dX2_rows_34 : decode cX2_rows 34 = .ok (.invokevirtual 253, 3) := dk_182 0 253 (dk_at dksX2_rows_1 11 rfl rfl)
theorem dX2_rows_37 : decode cX2_rows 37 = .ok (.aload_n 0, 1) := dk_42 (dk_at dksX2_rows_1 14 rfl rfl)
theorem dX2_rows_38 : decode cX2_rows 38 = .ok (.aload_n 0, 1) := dk_42 (dk_at dksX2_rows_1 15 rfl rfl)
theorem dX2_rows_39 : decode cX2_rows 39 = .ok (.getfield 244, 3) := dk_180 0 244 (dk_at dksX2_rows_1 16 rfl rfl)
theorem dX2_rows_42 : decode cX2_rows 42 = .ok (.aload_n 0, 1) := dk_42 (dk_at dksX2_rows_1 19 rfl rfl)
theorem dX2_rows_43 : decode cX2_rows 43 = .ok (.getfield 247, 3) := dk_180 0 247 (dk_at dksX2_rows_1 20 rfl rfl)
theorem dX2_rows_46 : decode cX2_rows 46 = .ok (.invokevirtual 105, 3) := dk_182 0 105 (dk_at dksX2_rows_2 0 rfl rfl)
theorem dX2_rows_49 : decode cX2_rows 49 = .ok (.ireturn, 1) := dk_172 (dk_at dksX2_rows_2 3 rfl rfl)
abbrev cX2_layRows : ByteArray := prog_11_method_77_code
def yX2_layRows : MethodName := ⟨RX2, "layRows", "(II)V"⟩
def dkwX2_layRows_2 : List UInt8 := [42, 27, 4, 96, 29, 182, 0, 192, 42, 27, 4, 96, 28, 182, 0, 253, 132, 3, 1, 167, 255, 212, 177]
abbrev dktX2_layRows_2 : List UInt8 := dkwX2_layRows_2 ++ []
def dkwX2_layRows_1 : List UInt8 := [42, 180, 0, 142, 162, 0, 42, 42, 27, 29, 182, 0, 155, 153, 0, 27, 42, 27, 27, 4, 96, 182, 0, 212]
abbrev dktX2_layRows_1 : List UInt8 := dkwX2_layRows_1 ++ dktX2_layRows_2
def dkwX2_layRows_0 : List UInt8 := [27, 28, 160, 0, 19, 42, 89, 180, 0, 247, 4, 96, 181, 0, 247, 42, 27, 182, 0, 250, 177, 3, 62, 29]
abbrev dktX2_layRows_0 : List UInt8 := dkwX2_layRows_0 ++ dktX2_layRows_1
theorem dksX2_layRows_0 : cX2_layRows.data.toList.drop 0 = dktX2_layRows_0 := by decide +kernel
theorem dksX2_layRows_1 : cX2_layRows.data.toList.drop 24 = dktX2_layRows_1 := dk_seg dksX2_layRows_0 24 rfl rfl
theorem dksX2_layRows_2 : cX2_layRows.data.toList.drop 48 = dktX2_layRows_2 := dk_seg dksX2_layRows_1 24 rfl rfl
theorem dX2_layRows_0 : decode cX2_layRows 0 = .ok (.iload_n 1, 1) := dk_27 (dk_at dksX2_layRows_0 0 rfl rfl)
theorem dX2_layRows_1 : decode cX2_layRows 1 = .ok (.iload_n 2, 1) := dk_28 (dk_at dksX2_layRows_0 1 rfl rfl)
theorem dX2_layRows_2 : decode cX2_layRows 2 = .ok (.if_icmp .ne 19, 3) := dk_160 0 19 (dk_at dksX2_layRows_0 2 rfl rfl)
theorem dX2_layRows_5 : decode cX2_layRows 5 = .ok (.aload_n 0, 1) := dk_42 (dk_at dksX2_layRows_0 5 rfl rfl)
theorem dX2_layRows_6 : decode cX2_layRows 6 = .ok (.dup, 1) := dk_89 (dk_at dksX2_layRows_0 6 rfl rfl)
theorem dX2_layRows_7 : decode cX2_layRows 7 = .ok (.getfield 247, 3) := dk_180 0 247 (dk_at dksX2_layRows_0 7 rfl rfl)
theorem dX2_layRows_10 : decode cX2_layRows 10 = .ok (.iconst 1, 1) := dk_4 (dk_at dksX2_layRows_0 10 rfl rfl)
theorem dX2_layRows_11 : decode cX2_layRows 11 = .ok (.iadd, 1) := dk_96 (dk_at dksX2_layRows_0 11 rfl rfl)
theorem dX2_layRows_12 : decode cX2_layRows 12 = .ok (.putfield 247, 3) := dk_181 0 247 (dk_at dksX2_layRows_0 12 rfl rfl)
theorem dX2_layRows_15 : decode cX2_layRows 15 = .ok (.aload_n 0, 1) := dk_42 (dk_at dksX2_layRows_0 15 rfl rfl)
theorem dX2_layRows_16 : decode cX2_layRows 16 = .ok (.iload_n 1, 1) := dk_27 (dk_at dksX2_layRows_0 16 rfl rfl)
theorem dX2_layRows_17 : decode cX2_layRows 17 = .ok (.invokevirtual 250, 3) := dk_182 0 250 (dk_at dksX2_layRows_0 17 rfl rfl)
theorem dX2_layRows_20 : decode cX2_layRows 20 = .ok (.return_, 1) := dk_177 (dk_at dksX2_layRows_0 20 rfl rfl)
theorem dX2_layRows_21 : decode cX2_layRows 21 = .ok (.iconst 0, 1) := dk_3 (dk_at dksX2_layRows_0 21 rfl rfl)
theorem dX2_layRows_22 : decode cX2_layRows 22 = .ok (.istore_n 3, 1) := dk_62 (dk_at dksX2_layRows_0 22 rfl rfl)
theorem dX2_layRows_23 : decode cX2_layRows 23 = .ok (.iload_n 3, 1) := dk_29 (dk_at dksX2_layRows_0 23 rfl rfl)
theorem dX2_layRows_24 : decode cX2_layRows 24 = .ok (.aload_n 0, 1) := dk_42 (dk_at dksX2_layRows_1 0 rfl rfl)
theorem dX2_layRows_25 : decode cX2_layRows 25 = .ok (.getfield 142, 3) := dk_180 0 142 (dk_at dksX2_layRows_1 1 rfl rfl)
theorem dX2_layRows_28 : decode cX2_layRows 28 = .ok (.if_icmp .ge 42, 3) := dk_162 0 42 (dk_at dksX2_layRows_1 4 rfl rfl)
theorem dX2_layRows_31 : decode cX2_layRows 31 = .ok (.aload_n 0, 1) := dk_42 (dk_at dksX2_layRows_1 7 rfl rfl)
theorem dX2_layRows_32 : decode cX2_layRows 32 = .ok (.iload_n 1, 1) := dk_27 (dk_at dksX2_layRows_1 8 rfl rfl)
theorem dX2_layRows_33 : decode cX2_layRows 33 = .ok (.iload_n 3, 1) := dk_29 (dk_at dksX2_layRows_1 9 rfl rfl)
theorem dX2_layRows_34 : decode cX2_layRows 34 = .ok (.invokevirtual 155, 3) := dk_182 0 155 (dk_at dksX2_layRows_1 10 rfl rfl)
theorem dX2_layRows_37 : decode cX2_layRows 37 = .ok (.ifCond .eq 27, 3) := dk_153 0 27 (dk_at dksX2_layRows_1 13 rfl rfl)
theorem dX2_layRows_40 : decode cX2_layRows 40 = .ok (.aload_n 0, 1) := dk_42 (dk_at dksX2_layRows_1 16 rfl rfl)
theorem dX2_layRows_41 : decode cX2_layRows 41 = .ok (.iload_n 1, 1) := dk_27 (dk_at dksX2_layRows_1 17 rfl rfl)
theorem dX2_layRows_42 : decode cX2_layRows 42 = .ok (.iload_n 1, 1) := dk_27 (dk_at dksX2_layRows_1 18 rfl rfl)
theorem dX2_layRows_43 : decode cX2_layRows 43 = .ok (.iconst 1, 1) := dk_4 (dk_at dksX2_layRows_1 19 rfl rfl)
theorem dX2_layRows_44 : decode cX2_layRows 44 = .ok (.iadd, 1) := dk_96 (dk_at dksX2_layRows_1 20 rfl rfl)
theorem dX2_layRows_45 : decode cX2_layRows 45 = .ok (.invokevirtual 212, 3) := dk_182 0 212 (dk_at dksX2_layRows_1 21 rfl rfl)
theorem dX2_layRows_48 : decode cX2_layRows 48 = .ok (.aload_n 0, 1) := dk_42 (dk_at dksX2_layRows_2 0 rfl rfl)
theorem dX2_layRows_49 : decode cX2_layRows 49 = .ok (.iload_n 1, 1) := dk_27 (dk_at dksX2_layRows_2 1 rfl rfl)
theorem dX2_layRows_50 : decode cX2_layRows 50 = .ok (.iconst 1, 1) := dk_4 (dk_at dksX2_layRows_2 2 rfl rfl)
theorem dX2_layRows_51 : decode cX2_layRows 51 = .ok (.iadd, 1) := dk_96 (dk_at dksX2_layRows_2 3 rfl rfl)
theorem dX2_layRows_52 : decode cX2_layRows 52 = .ok (.iload_n 3, 1) := dk_29 (dk_at dksX2_layRows_2 4 rfl rfl)
theorem dX2_layRows_53 : decode cX2_layRows 53 = .ok (.invokevirtual 192, 3) := dk_182 0 192 (dk_at dksX2_layRows_2 5 rfl rfl)
theorem dX2_layRows_56 : decode cX2_layRows 56 = .ok (.aload_n 0, 1) := dk_42 (dk_at dksX2_layRows_2 8 rfl rfl)
theorem dX2_layRows_57 : decode cX2_layRows 57 = .ok (.iload_n 1, 1) := dk_27 (dk_at dksX2_layRows_2 9 rfl rfl)
theorem dX2_layRows_58 : decode cX2_layRows 58 = .ok (.iconst 1, 1) := dk_4 (dk_at dksX2_layRows_2 10 rfl rfl)
theorem dX2_layRows_59 : decode cX2_layRows 59 = .ok (.iadd, 1) := dk_96 (dk_at dksX2_layRows_2 11 rfl rfl)
theorem dX2_layRows_60 : decode cX2_layRows 60 = .ok (.iload_n 2, 1) := dk_28 (dk_at dksX2_layRows_2 12 rfl rfl)
theorem dX2_layRows_61 : decode cX2_layRows 61 = .ok (.invokevirtual 253, 3) := dk_182 0 253 (dk_at dksX2_layRows_2 13 rfl rfl)
theorem dX2_layRows_64 : decode cX2_layRows 64 = .ok (.iinc 3 1, 3) := dk_132 3 1 (dk_at dksX2_layRows_2 16 rfl rfl)
theorem dX2_layRows_67 : decode cX2_layRows 67 = .ok (.goto (-44), 3) := dk_167 255 212 (dk_at dksX2_layRows_2 19 rfl rfl)
theorem dX2_layRows_70 : decode cX2_layRows 70 = .ok (.return_, 1) := dk_177 (dk_at dksX2_layRows_2 22 rfl rfl)
abbrev cX2_meetSand : ByteArray := prog_11_method_76_code
def yX2_meetSand : MethodName := ⟨RX2, "meetSand", "(I)V"⟩
def dkwX2_meetSand_6 : List UInt8 := [96, 181, 0, 244, 177]
abbrev dktX2_meetSand_6 : List UInt8 := dkwX2_meetSand_6 ++ []
def dkwX2_meetSand_5 : List UInt8 := [182, 0, 152, 79, 132, 3, 1, 167, 255, 221, 42, 89, 180, 0, 244, 28, 153, 0, 7, 4, 167, 0, 4, 3]
abbrev dktX2_meetSand_5 : List UInt8 := dkwX2_meetSand_5 ++ dktX2_meetSand_6
def dkwX2_meetSand_4 : List UInt8 := [162, 0, 33, 28, 153, 0, 29, 42, 180, 0, 73, 16, 6, 42, 180, 0, 244, 104, 29, 96, 42, 27, 29]
abbrev dktX2_meetSand_4 : List UInt8 := dkwX2_meetSand_4 ++ dktX2_meetSand_5
def dkwX2_meetSand_3 : List UInt8 := [21, 4, 154, 0, 7, 4, 167, 0, 4, 3, 61, 132, 3, 1, 167, 255, 175, 3, 62, 29, 42, 180, 0, 142]
abbrev dktX2_meetSand_3 : List UInt8 := dkwX2_meetSand_3 ++ dktX2_meetSand_4
def dkwX2_meetSand_2 : List UInt8 := [42, 27, 21, 5, 182, 0, 152, 160, 0, 7, 4, 167, 0, 4, 3, 54, 4, 132, 5, 1, 167, 255, 210]
abbrev dktX2_meetSand_2 : List UInt8 := dkwX2_meetSand_2 ++ dktX2_meetSand_3
def dkwX2_meetSand_1 : List UInt8 := [42, 180, 0, 142, 162, 0, 43, 21, 4, 153, 0, 29, 42, 180, 0, 73, 16, 6, 29, 104, 21, 5, 96, 46]
abbrev dktX2_meetSand_1 : List UInt8 := dkwX2_meetSand_1 ++ dktX2_meetSand_2
def dkwX2_meetSand_0 : List UInt8 := [4, 61, 3, 62, 29, 42, 180, 0, 244, 162, 0, 79, 28, 153, 0, 75, 4, 54, 4, 3, 54, 5, 21, 5]
abbrev dktX2_meetSand_0 : List UInt8 := dkwX2_meetSand_0 ++ dktX2_meetSand_1
theorem dksX2_meetSand_0 : cX2_meetSand.data.toList.drop 0 = dktX2_meetSand_0 := by decide +kernel
theorem dksX2_meetSand_1 : cX2_meetSand.data.toList.drop 24 = dktX2_meetSand_1 := dk_seg dksX2_meetSand_0 24 rfl rfl
theorem dksX2_meetSand_2 : cX2_meetSand.data.toList.drop 48 = dktX2_meetSand_2 := dk_seg dksX2_meetSand_1 24 rfl rfl
theorem dksX2_meetSand_3 : cX2_meetSand.data.toList.drop 71 = dktX2_meetSand_3 := dk_seg dksX2_meetSand_2 23 rfl rfl
theorem dksX2_meetSand_4 : cX2_meetSand.data.toList.drop 95 = dktX2_meetSand_4 := dk_seg dksX2_meetSand_3 24 rfl rfl
theorem dksX2_meetSand_5 : cX2_meetSand.data.toList.drop 118 = dktX2_meetSand_5 := dk_seg dksX2_meetSand_4 23 rfl rfl
theorem dksX2_meetSand_6 : cX2_meetSand.data.toList.drop 142 = dktX2_meetSand_6 := dk_seg dksX2_meetSand_5 24 rfl rfl
theorem dX2_meetSand_0 : decode cX2_meetSand 0 = .ok (.iconst 1, 1) := dk_4 (dk_at dksX2_meetSand_0 0 rfl rfl)
theorem dX2_meetSand_1 : decode cX2_meetSand 1 = .ok (.istore_n 2, 1) := dk_61 (dk_at dksX2_meetSand_0 1 rfl rfl)
theorem dX2_meetSand_2 : decode cX2_meetSand 2 = .ok (.iconst 0, 1) := dk_3 (dk_at dksX2_meetSand_0 2 rfl rfl)
theorem dX2_meetSand_3 : decode cX2_meetSand 3 = .ok (.istore_n 3, 1) := dk_62 (dk_at dksX2_meetSand_0 3 rfl rfl)
theorem dX2_meetSand_4 : decode cX2_meetSand 4 = .ok (.iload_n 3, 1) := dk_29 (dk_at dksX2_meetSand_0 4 rfl rfl)
theorem dX2_meetSand_5 : decode cX2_meetSand 5 = .ok (.aload_n 0, 1) := dk_42 (dk_at dksX2_meetSand_0 5 rfl rfl)
theorem dX2_meetSand_6 : decode cX2_meetSand 6 = .ok (.getfield 244, 3) := dk_180 0 244 (dk_at dksX2_meetSand_0 6 rfl rfl)
theorem dX2_meetSand_9 : decode cX2_meetSand 9 = .ok (.if_icmp .ge 79, 3) := dk_162 0 79 (dk_at dksX2_meetSand_0 9 rfl rfl)
theorem dX2_meetSand_12 : decode cX2_meetSand 12 = .ok (.iload_n 2, 1) := dk_28 (dk_at dksX2_meetSand_0 12 rfl rfl)
theorem dX2_meetSand_13 : decode cX2_meetSand 13 = .ok (.ifCond .eq 75, 3) := dk_153 0 75 (dk_at dksX2_meetSand_0 13 rfl rfl)
theorem dX2_meetSand_16 : decode cX2_meetSand 16 = .ok (.iconst 1, 1) := dk_4 (dk_at dksX2_meetSand_0 16 rfl rfl)
theorem dX2_meetSand_17 : decode cX2_meetSand 17 = .ok (.istore 4, 2) := dk_54 4 (dk_at dksX2_meetSand_0 17 rfl rfl)
theorem dX2_meetSand_19 : decode cX2_meetSand 19 = .ok (.iconst 0, 1) := dk_3 (dk_at dksX2_meetSand_0 19 rfl rfl)
theorem dX2_meetSand_20 : decode cX2_meetSand 20 = .ok (.istore 5, 2) := dk_54 5 (dk_at dksX2_meetSand_0 20 rfl rfl)
theorem dX2_meetSand_22 : decode cX2_meetSand 22 = .ok (.iload 5, 2) := dk_21 5 (dk_at dksX2_meetSand_0 22 rfl rfl)
theorem dX2_meetSand_24 : decode cX2_meetSand 24 = .ok (.aload_n 0, 1) := dk_42 (dk_at dksX2_meetSand_1 0 rfl rfl)
theorem dX2_meetSand_25 : decode cX2_meetSand 25 = .ok (.getfield 142, 3) := dk_180 0 142 (dk_at dksX2_meetSand_1 1 rfl rfl)
theorem dX2_meetSand_28 : decode cX2_meetSand 28 = .ok (.if_icmp .ge 43, 3) := dk_162 0 43 (dk_at dksX2_meetSand_1 4 rfl rfl)
theorem dX2_meetSand_31 : decode cX2_meetSand 31 = .ok (.iload 4, 2) := dk_21 4 (dk_at dksX2_meetSand_1 7 rfl rfl)
theorem dX2_meetSand_33 : decode cX2_meetSand 33 = .ok (.ifCond .eq 29, 3) := dk_153 0 29 (dk_at dksX2_meetSand_1 9 rfl rfl)
theorem dX2_meetSand_36 : decode cX2_meetSand 36 = .ok (.aload_n 0, 1) := dk_42 (dk_at dksX2_meetSand_1 12 rfl rfl)
theorem dX2_meetSand_37 : decode cX2_meetSand 37 = .ok (.getfield 73, 3) := dk_180 0 73 (dk_at dksX2_meetSand_1 13 rfl rfl)
theorem dX2_meetSand_40 : decode cX2_meetSand 40 = .ok (.bipush 6, 2) := dk_16 6 (dk_at dksX2_meetSand_1 16 rfl rfl)
theorem dX2_meetSand_42 : decode cX2_meetSand 42 = .ok (.iload_n 3, 1) := dk_29 (dk_at dksX2_meetSand_1 18 rfl rfl)
theorem dX2_meetSand_43 : decode cX2_meetSand 43 = .ok (.imul, 1) := dk_104 (dk_at dksX2_meetSand_1 19 rfl rfl)
theorem dX2_meetSand_44 : decode cX2_meetSand 44 = .ok (.iload 5, 2) := dk_21 5 (dk_at dksX2_meetSand_1 20 rfl rfl)
theorem dX2_meetSand_46 : decode cX2_meetSand 46 = .ok (.iadd, 1) := dk_96 (dk_at dksX2_meetSand_1 22 rfl rfl)
theorem dX2_meetSand_47 : decode cX2_meetSand 47 = .ok (.iaload, 1) := dk_46 (dk_at dksX2_meetSand_1 23 rfl rfl)
theorem dX2_meetSand_48 : decode cX2_meetSand 48 = .ok (.aload_n 0, 1) := dk_42 (dk_at dksX2_meetSand_2 0 rfl rfl)
theorem dX2_meetSand_49 : decode cX2_meetSand 49 = .ok (.iload_n 1, 1) := dk_27 (dk_at dksX2_meetSand_2 1 rfl rfl)
theorem dX2_meetSand_50 : decode cX2_meetSand 50 = .ok (.iload 5, 2) := dk_21 5 (dk_at dksX2_meetSand_2 2 rfl rfl)
theorem dX2_meetSand_52 : decode cX2_meetSand 52 = .ok (.invokevirtual 152, 3) := dk_182 0 152 (dk_at dksX2_meetSand_2 4 rfl rfl)
theorem dX2_meetSand_55 : decode cX2_meetSand 55 = .ok (.if_icmp .ne 7, 3) := dk_160 0 7 (dk_at dksX2_meetSand_2 7 rfl rfl)
theorem dX2_meetSand_58 : decode cX2_meetSand 58 = .ok (.iconst 1, 1) := dk_4 (dk_at dksX2_meetSand_2 10 rfl rfl)
theorem dX2_meetSand_59 : decode cX2_meetSand 59 = .ok (.goto 4, 3) := dk_167 0 4 (dk_at dksX2_meetSand_2 11 rfl rfl)
theorem dX2_meetSand_62 : decode cX2_meetSand 62 = .ok (.iconst 0, 1) := dk_3 (dk_at dksX2_meetSand_2 14 rfl rfl)
theorem dX2_meetSand_63 : decode cX2_meetSand 63 = .ok (.istore 4, 2) := dk_54 4 (dk_at dksX2_meetSand_2 15 rfl rfl)
theorem dX2_meetSand_65 : decode cX2_meetSand 65 = .ok (.iinc 5 1, 3) := dk_132 5 1 (dk_at dksX2_meetSand_2 17 rfl rfl)
theorem dX2_meetSand_68 : decode cX2_meetSand 68 = .ok (.goto (-46), 3) := dk_167 255 210 (dk_at dksX2_meetSand_2 20 rfl rfl)
theorem dX2_meetSand_71 : decode cX2_meetSand 71 = .ok (.iload 4, 2) := dk_21 4 (dk_at dksX2_meetSand_3 0 rfl rfl)
theorem dX2_meetSand_73 : decode cX2_meetSand 73 = .ok (.ifCond .ne 7, 3) := dk_154 0 7 (dk_at dksX2_meetSand_3 2 rfl rfl)
theorem dX2_meetSand_76 : decode cX2_meetSand 76 = .ok (.iconst 1, 1) := dk_4 (dk_at dksX2_meetSand_3 5 rfl rfl)
theorem dX2_meetSand_77 : decode cX2_meetSand 77 = .ok (.goto 4, 3) := dk_167 0 4 (dk_at dksX2_meetSand_3 6 rfl rfl)
theorem dX2_meetSand_80 : decode cX2_meetSand 80 = .ok (.iconst 0, 1) := dk_3 (dk_at dksX2_meetSand_3 9 rfl rfl)
theorem dX2_meetSand_81 : decode cX2_meetSand 81 = .ok (.istore_n 2, 1) := dk_61 (dk_at dksX2_meetSand_3 10 rfl rfl)
theorem dX2_meetSand_82 : decode cX2_meetSand 82 = .ok (.iinc 3 1, 3) := dk_132 3 1 (dk_at dksX2_meetSand_3 11 rfl rfl)
theorem dX2_meetSand_85 : decode cX2_meetSand 85 = .ok (.goto (-81), 3) := dk_167 255 175 (dk_at dksX2_meetSand_3 14 rfl rfl)
theorem dX2_meetSand_88 : decode cX2_meetSand 88 = .ok (.iconst 0, 1) := dk_3 (dk_at dksX2_meetSand_3 17 rfl rfl)
theorem dX2_meetSand_89 : decode cX2_meetSand 89 = .ok (.istore_n 3, 1) := dk_62 (dk_at dksX2_meetSand_3 18 rfl rfl)
theorem dX2_meetSand_90 : decode cX2_meetSand 90 = .ok (.iload_n 3, 1) := dk_29 (dk_at dksX2_meetSand_3 19 rfl rfl)
theorem dX2_meetSand_91 : decode cX2_meetSand 91 = .ok (.aload_n 0, 1) := dk_42 (dk_at dksX2_meetSand_3 20 rfl rfl)
theorem dX2_meetSand_92 : decode cX2_meetSand 92 = .ok (.getfield 142, 3) := dk_180 0 142 (dk_at dksX2_meetSand_3 21 rfl rfl)
theorem dX2_meetSand_95 : decode cX2_meetSand 95 = .ok (.if_icmp .ge 33, 3) := dk_162 0 33 (dk_at dksX2_meetSand_4 0 rfl rfl)
theorem dX2_meetSand_98 : decode cX2_meetSand 98 = .ok (.iload_n 2, 1) := dk_28 (dk_at dksX2_meetSand_4 3 rfl rfl)
theorem dX2_meetSand_99 : decode cX2_meetSand 99 = .ok (.ifCond .eq 29, 3) := dk_153 0 29 (dk_at dksX2_meetSand_4 4 rfl rfl)
theorem dX2_meetSand_102 : decode cX2_meetSand 102 = .ok (.aload_n 0, 1) := dk_42 (dk_at dksX2_meetSand_4 7 rfl rfl)
theorem dX2_meetSand_103 : decode cX2_meetSand 103 = .ok (.getfield 73, 3) := dk_180 0 73 (dk_at dksX2_meetSand_4 8 rfl rfl)
theorem dX2_meetSand_106 : decode cX2_meetSand 106 = .ok (.bipush 6, 2) := dk_16 6 (dk_at dksX2_meetSand_4 11 rfl rfl)
theorem dX2_meetSand_108 : decode cX2_meetSand 108 = .ok (.aload_n 0, 1) := dk_42 (dk_at dksX2_meetSand_4 13 rfl rfl)
theorem dX2_meetSand_109 : decode cX2_meetSand 109 = .ok (.getfield 244, 3) := dk_180 0 244 (dk_at dksX2_meetSand_4 14 rfl rfl)
theorem dX2_meetSand_112 : decode cX2_meetSand 112 = .ok (.imul, 1) := dk_104 (dk_at dksX2_meetSand_4 17 rfl rfl)
theorem dX2_meetSand_113 : decode cX2_meetSand 113 = .ok (.iload_n 3, 1) := dk_29 (dk_at dksX2_meetSand_4 18 rfl rfl)
theorem dX2_meetSand_114 : decode cX2_meetSand 114 = .ok (.iadd, 1) := dk_96 (dk_at dksX2_meetSand_4 19 rfl rfl)
theorem dX2_meetSand_115 : decode cX2_meetSand 115 = .ok (.aload_n 0, 1) := dk_42 (dk_at dksX2_meetSand_4 20 rfl rfl)
theorem dX2_meetSand_116 : decode cX2_meetSand 116 = .ok (.iload_n 1, 1) := dk_27 (dk_at dksX2_meetSand_4 21 rfl rfl)
theorem dX2_meetSand_117 : decode cX2_meetSand 117 = .ok (.iload_n 3, 1) := dk_29 (dk_at dksX2_meetSand_4 22 rfl rfl)
theorem dX2_meetSand_118 : decode cX2_meetSand 118 = .ok (.invokevirtual 152, 3) := dk_182 0 152 (dk_at dksX2_meetSand_5 0 rfl rfl)
theorem dX2_meetSand_121 : decode cX2_meetSand 121 = .ok (.iastore, 1) := dk_79 (dk_at dksX2_meetSand_5 3 rfl rfl)
theorem dX2_meetSand_122 : decode cX2_meetSand 122 = .ok (.iinc 3 1, 3) := dk_132 3 1 (dk_at dksX2_meetSand_5 4 rfl rfl)
theorem dX2_meetSand_125 : decode cX2_meetSand 125 = .ok (.goto (-35), 3) := dk_167 255 221 (dk_at dksX2_meetSand_5 7 rfl rfl)
theorem dX2_meetSand_128 : decode cX2_meetSand 128 = .ok (.aload_n 0, 1) := dk_42 (dk_at dksX2_meetSand_5 10 rfl rfl)
theorem dX2_meetSand_129 : decode cX2_meetSand 129 = .ok (.dup, 1) := dk_89 (dk_at dksX2_meetSand_5 11 rfl rfl)
theorem dX2_meetSand_130 : decode cX2_meetSand 130 = .ok (.getfield 244, 3) := dk_180 0 244 (dk_at dksX2_meetSand_5 12 rfl rfl)
theorem dX2_meetSand_133 : decode cX2_meetSand 133 = .ok (.iload_n 2, 1) := dk_28 (dk_at dksX2_meetSand_5 15 rfl rfl)
theorem dX2_meetSand_134 : decode cX2_meetSand 134 = .ok (.ifCond .eq 7, 3) := dk_153 0 7 (dk_at dksX2_meetSand_5 16 rfl rfl)
theorem dX2_meetSand_137 : decode cX2_meetSand 137 = .ok (.iconst 1, 1) := dk_4 (dk_at dksX2_meetSand_5 19 rfl rfl)
theorem dX2_meetSand_138 : decode cX2_meetSand 138 = .ok (.goto 4, 3) := dk_167 0 4 (dk_at dksX2_meetSand_5 20 rfl rfl)
theorem dX2_meetSand_141 : decode cX2_meetSand 141 = .ok (.iconst 0, 1) := dk_3 (dk_at dksX2_meetSand_5 23 rfl rfl)
theorem dX2_meetSand_142 : decode cX2_meetSand 142 = .ok (.iadd, 1) := dk_96 (dk_at dksX2_meetSand_6 0 rfl rfl)
theorem dX2_meetSand_143 : decode cX2_meetSand 143 = .ok (.putfield 244, 3) := dk_181 0 244 (dk_at dksX2_meetSand_6 1 rfl rfl)
theorem dX2_meetSand_146 : decode cX2_meetSand 146 = .ok (.return_, 1) := dk_177 (dk_at dksX2_meetSand_6 4 rfl rfl)
abbrev cX2_back : ByteArray := prog_11_method_81_code
def yX2_back : MethodName := ⟨RX2, "back", "(III)I"⟩
def dkwX2_back_8 : List UInt8 := [158, 0, 13, 42, 29, 42, 180, 0, 70, 28, 182, 0, 221, 42, 180, 0, 247, 172]
abbrev dktX2_back_8 : List UInt8 := dkwX2_back_8 ++ []
def dkwX2_back_7 : List UInt8 := [182, 0, 145, 132, 5, 1, 167, 255, 219, 42, 3, 181, 0, 247, 42, 3, 28, 182, 1, 3, 42, 180, 0, 247]
abbrev dktX2_back_7 : List UInt8 := dkwX2_back_7 ++ dktX2_back_8
def dkwX2_back_6 : List UInt8 := [42, 4, 21, 5, 21, 5, 42, 180, 0, 142, 162, 0, 13, 42, 27, 21, 5, 182, 0, 101, 167, 0, 4, 3]
abbrev dktX2_back_6 : List UInt8 := dkwX2_back_6 ++ dktX2_back_7
def dkwX2_back_5 : List UInt8 := [167, 255, 215, 21, 4, 154, 0, 9, 42, 6, 182, 0, 97, 172, 3, 54, 5, 21, 5, 16, 9, 162, 0, 36]
abbrev dktX2_back_5 : List UInt8 := dkwX2_back_5 ++ dktX2_back_6
def dkwX2_back_4 : List UInt8 := [182, 0, 101, 3, 17, 3, 231, 184, 0, 83, 153, 0, 7, 4, 167, 0, 4, 3, 54, 4, 132, 5, 1]
abbrev dktX2_back_4 : List UInt8 := dkwX2_back_4 ++ dktX2_back_5
def dkwX2_back_3 : List UInt8 := [54, 4, 3, 54, 5, 21, 5, 42, 180, 0, 142, 162, 0, 38, 21, 4, 153, 0, 24, 42, 27, 21, 5]
abbrev dktX2_back_3 : List UInt8 := dkwX2_back_3 ++ dktX2_back_4
def dkwX2_back_2 : List UInt8 := [182, 0, 97, 172, 42, 180, 0, 17, 27, 46, 42, 180, 0, 142, 159, 0, 9, 42, 8, 182, 0, 97, 172, 4]
abbrev dktX2_back_2 : List UInt8 := dkwX2_back_2 ++ dktX2_back_3
def dkwX2_back_1 : List UInt8 := [172, 42, 180, 0, 142, 154, 0, 6, 16, 252, 172, 42, 180, 0, 17, 27, 46, 156, 0, 9, 42, 4]
abbrev dktX2_back_1 : List UInt8 := dkwX2_back_1 ++ dktX2_back_2
def dkwX2_back_0 : List UInt8 := [27, 184, 0, 93, 153, 0, 19, 28, 3, 7, 184, 0, 83, 153, 0, 10, 29, 184, 0, 93, 154, 0, 5, 2]
abbrev dktX2_back_0 : List UInt8 := dkwX2_back_0 ++ dktX2_back_1
theorem dksX2_back_0 : cX2_back.data.toList.drop 0 = dktX2_back_0 := by decide +kernel
theorem dksX2_back_1 : cX2_back.data.toList.drop 24 = dktX2_back_1 := dk_seg dksX2_back_0 24 rfl rfl
theorem dksX2_back_2 : cX2_back.data.toList.drop 46 = dktX2_back_2 := dk_seg dksX2_back_1 22 rfl rfl
theorem dksX2_back_3 : cX2_back.data.toList.drop 70 = dktX2_back_3 := dk_seg dksX2_back_2 24 rfl rfl
theorem dksX2_back_4 : cX2_back.data.toList.drop 93 = dktX2_back_4 := dk_seg dksX2_back_3 23 rfl rfl
theorem dksX2_back_5 : cX2_back.data.toList.drop 116 = dktX2_back_5 := dk_seg dksX2_back_4 23 rfl rfl
theorem dksX2_back_6 : cX2_back.data.toList.drop 140 = dktX2_back_6 := dk_seg dksX2_back_5 24 rfl rfl
theorem dksX2_back_7 : cX2_back.data.toList.drop 164 = dktX2_back_7 := dk_seg dksX2_back_6 24 rfl rfl
theorem dksX2_back_8 : cX2_back.data.toList.drop 188 = dktX2_back_8 := dk_seg dksX2_back_7 24 rfl rfl
theorem dX2_back_0 : decode cX2_back 0 = .ok (.iload_n 1, 1) := dk_27 (dk_at dksX2_back_0 0 rfl rfl)
theorem dX2_back_1 : decode cX2_back 1 = .ok (.invokestatic 93, 3) := dk_184 0 93 (dk_at dksX2_back_0 1 rfl rfl)
theorem dX2_back_4 : decode cX2_back 4 = .ok (.ifCond .eq 19, 3) := dk_153 0 19 (dk_at dksX2_back_0 4 rfl rfl)
theorem dX2_back_7 : decode cX2_back 7 = .ok (.iload_n 2, 1) := dk_28 (dk_at dksX2_back_0 7 rfl rfl)
theorem dX2_back_8 : decode cX2_back 8 = .ok (.iconst 0, 1) := dk_3 (dk_at dksX2_back_0 8 rfl rfl)
theorem dX2_back_9 : decode cX2_back 9 = .ok (.iconst 4, 1) := dk_7 (dk_at dksX2_back_0 9 rfl rfl)
theorem dX2_back_10 : decode cX2_back 10 = .ok (.invokestatic 83, 3) := dk_184 0 83 (dk_at dksX2_back_0 10 rfl rfl)
theorem dX2_back_13 : decode cX2_back 13 = .ok (.ifCond .eq 10, 3) := dk_153 0 10 (dk_at dksX2_back_0 13 rfl rfl)
theorem dX2_back_16 : decode cX2_back 16 = .ok (.iload_n 3, 1) := dk_29 (dk_at dksX2_back_0 16 rfl rfl)
theorem dX2_back_17 : decode cX2_back 17 = .ok (.invokestatic 93, 3) := dk_184 0 93 (dk_at dksX2_back_0 17 rfl rfl)
theorem dX2_back_20 : decode cX2_back 20 = .ok (.ifCond .ne 5, 3) := dk_154 0 5 (dk_at dksX2_back_0 20 rfl rfl)
theorem dX2_back_23 : decode cX2_back 23 = .ok (.iconst (-1), 1) := dk_2 (dk_at dksX2_back_0 23 rfl rfl)
theorem dX2_back_24 : decode cX2_back 24 = .ok (.ireturn, 1) := dk_172 (dk_at dksX2_back_1 0 rfl rfl)
theorem dX2_back_25 : decode cX2_back 25 = .ok (.aload_n 0, 1) := dk_42 (dk_at dksX2_back_1 1 rfl rfl)
theorem dX2_back_26 : decode cX2_back 26 = .ok (.getfield 142, 3) := dk_180 0 142 (dk_at dksX2_back_1 2 rfl rfl)
theorem dX2_back_29 : decode cX2_back 29 = .ok (.ifCond .ne 6, 3) := dk_154 0 6 (dk_at dksX2_back_1 5 rfl rfl)
theorem dX2_back_32 : decode cX2_back 32 = .ok (.bipush (-4), 2) := dk_16 252 (dk_at dksX2_back_1 8 rfl rfl)
theorem dX2_back_34 : decode cX2_back 34 = .ok (.ireturn, 1) := dk_172 (dk_at dksX2_back_1 10 rfl rfl)
theorem dX2_back_35 : decode cX2_back 35 = .ok (.aload_n 0, 1) := dk_42 (dk_at dksX2_back_1 11 rfl rfl)
theorem dX2_back_36 : decode cX2_back 36 = .ok (.getfield 17, 3) := dk_180 0 17 (dk_at dksX2_back_1 12 rfl rfl)
theorem dX2_back_39 : decode cX2_back 39 = .ok (.iload_n 1, 1) := dk_27 (dk_at dksX2_back_1 15 rfl rfl)
theorem dX2_back_40 : decode cX2_back 40 = .ok (.iaload, 1) := dk_46 (dk_at dksX2_back_1 16 rfl rfl)
theorem dX2_back_41 : decode cX2_back 41 = .ok (.ifCond .ge 9, 3) := dk_156 0 9 (dk_at dksX2_back_1 17 rfl rfl)
theorem dX2_back_44 : decode cX2_back 44 = .ok (.aload_n 0, 1) := dk_42 (dk_at dksX2_back_1 20 rfl rfl)
theorem dX2_back_45 : decode cX2_back 45 = .ok (.iconst 1, 1) := dk_4 (dk_at dksX2_back_1 21 rfl rfl)
theorem dX2_back_46 : decode cX2_back 46 = .ok (.invokevirtual 97, 3) := dk_182 0 97 (dk_at dksX2_back_2 0 rfl rfl)
theorem dX2_back_49 : decode cX2_back 49 = .ok (.ireturn, 1) := dk_172 (dk_at dksX2_back_2 3 rfl rfl)
theorem dX2_back_50 : decode cX2_back 50 = .ok (.aload_n 0, 1) := dk_42 (dk_at dksX2_back_2 4 rfl rfl)
theorem dX2_back_51 : decode cX2_back 51 = .ok (.getfield 17, 3) := dk_180 0 17 (dk_at dksX2_back_2 5 rfl rfl)
theorem dX2_back_54 : decode cX2_back 54 = .ok (.iload_n 1, 1) := dk_27 (dk_at dksX2_back_2 8 rfl rfl)
theorem dX2_back_55 : decode cX2_back 55 = .ok (.iaload, 1) := dk_46 (dk_at dksX2_back_2 9 rfl rfl)
theorem dX2_back_56 : decode cX2_back 56 = .ok (.aload_n 0, 1) := dk_42 (dk_at dksX2_back_2 10 rfl rfl)
theorem dX2_back_57 : decode cX2_back 57 = .ok (.getfield 142, 3) := dk_180 0 142 (dk_at dksX2_back_2 11 rfl rfl)
theorem dX2_back_60 : decode cX2_back 60 = .ok (.if_icmp .eq 9, 3) := dk_159 0 9 (dk_at dksX2_back_2 14 rfl rfl)
theorem dX2_back_63 : decode cX2_back 63 = .ok (.aload_n 0, 1) := dk_42 (dk_at dksX2_back_2 17 rfl rfl)
theorem dX2_back_64 : decode cX2_back 64 = .ok (.iconst 5, 1) := dk_8 (dk_at dksX2_back_2 18 rfl rfl)
theorem dX2_back_65 : decode cX2_back 65 = .ok (.invokevirtual 97, 3) := dk_182 0 97 (dk_at dksX2_back_2 19 rfl rfl)
theorem dX2_back_68 : decode cX2_back 68 = .ok (.ireturn, 1) := dk_172 (dk_at dksX2_back_2 22 rfl rfl)
theorem dX2_back_69 : decode cX2_back 69 = .ok (.iconst 1, 1) := dk_4 (dk_at dksX2_back_2 23 rfl rfl)
theorem dX2_back_70 : decode cX2_back 70 = .ok (.istore 4, 2) := dk_54 4 (dk_at dksX2_back_3 0 rfl rfl)
theorem dX2_back_72 : decode cX2_back 72 = .ok (.iconst 0, 1) := dk_3 (dk_at dksX2_back_3 2 rfl rfl)
theorem dX2_back_73 : decode cX2_back 73 = .ok (.istore 5, 2) := dk_54 5 (dk_at dksX2_back_3 3 rfl rfl)
theorem dX2_back_75 : decode cX2_back 75 = .ok (.iload 5, 2) := dk_21 5 (dk_at dksX2_back_3 5 rfl rfl)
theorem dX2_back_77 : decode cX2_back 77 = .ok (.aload_n 0, 1) := dk_42 (dk_at dksX2_back_3 7 rfl rfl)
theorem dX2_back_78 : decode cX2_back 78 = .ok (.getfield 142, 3) := dk_180 0 142 (dk_at dksX2_back_3 8 rfl rfl)
theorem dX2_back_81 : decode cX2_back 81 = .ok (.if_icmp .ge 38, 3) := dk_162 0 38 (dk_at dksX2_back_3 11 rfl rfl)
theorem dX2_back_84 : decode cX2_back 84 = .ok (.iload 4, 2) := dk_21 4 (dk_at dksX2_back_3 14 rfl rfl)
theorem dX2_back_86 : decode cX2_back 86 = .ok (.ifCond .eq 24, 3) := dk_153 0 24 (dk_at dksX2_back_3 16 rfl rfl)
theorem dX2_back_89 : decode cX2_back 89 = .ok (.aload_n 0, 1) := dk_42 (dk_at dksX2_back_3 19 rfl rfl)
theorem dX2_back_90 : decode cX2_back 90 = .ok (.iload_n 1, 1) := dk_27 (dk_at dksX2_back_3 20 rfl rfl)
theorem dX2_back_91 : decode cX2_back 91 = .ok (.iload 5, 2) := dk_21 5 (dk_at dksX2_back_3 21 rfl rfl)
theorem dX2_back_93 : decode cX2_back 93 = .ok (.invokevirtual 101, 3) := dk_182 0 101 (dk_at dksX2_back_4 0 rfl rfl)
theorem dX2_back_96 : decode cX2_back 96 = .ok (.iconst 0, 1) := dk_3 (dk_at dksX2_back_4 3 rfl rfl)
theorem dX2_back_97 : decode cX2_back 97 = .ok (.sipush 999, 3) := dk_17 3 231 (dk_at dksX2_back_4 4 rfl rfl)
theorem dX2_back_100 : decode cX2_back 100 = .ok (.invokestatic 83, 3) := dk_184 0 83 (dk_at dksX2_back_4 7 rfl rfl)
theorem dX2_back_103 : decode cX2_back 103 = .ok (.ifCond .eq 7, 3) := dk_153 0 7 (dk_at dksX2_back_4 10 rfl rfl)
theorem dX2_back_106 : decode cX2_back 106 = .ok (.iconst 1, 1) := dk_4 (dk_at dksX2_back_4 13 rfl rfl)
theorem dX2_back_107 : decode cX2_back 107 = .ok (.goto 4, 3) := dk_167 0 4 (dk_at dksX2_back_4 14 rfl rfl)
theorem dX2_back_110 : decode cX2_back 110 = .ok (.iconst 0, 1) := dk_3 (dk_at dksX2_back_4 17 rfl rfl)
theorem dX2_back_111 : decode cX2_back 111 = .ok (.istore 4, 2) := dk_54 4 (dk_at dksX2_back_4 18 rfl rfl)
theorem dX2_back_113 : decode cX2_back 113 = .ok (.iinc 5 1, 3) := dk_132 5 1 (dk_at dksX2_back_4 20 rfl rfl)
theorem dX2_back_116 : decode cX2_back 116 = .ok (.goto (-41), 3) := dk_167 255 215 (dk_at dksX2_back_5 0 rfl rfl)
theorem dX2_back_119 : decode cX2_back 119 = .ok (.iload 4, 2) := dk_21 4 (dk_at dksX2_back_5 3 rfl rfl)
theorem dX2_back_121 : decode cX2_back 121 = .ok (.ifCond .ne 9, 3) := dk_154 0 9 (dk_at dksX2_back_5 5 rfl rfl)
theorem dX2_back_124 : decode cX2_back 124 = .ok (.aload_n 0, 1) := dk_42 (dk_at dksX2_back_5 8 rfl rfl)
theorem dX2_back_125 : decode cX2_back 125 = .ok (.iconst 3, 1) := dk_6 (dk_at dksX2_back_5 9 rfl rfl)
theorem dX2_back_126 : decode cX2_back 126 = .ok (.invokevirtual 97, 3) := dk_182 0 97 (dk_at dksX2_back_5 10 rfl rfl)
theorem dX2_back_129 : decode cX2_back 129 = .ok (.ireturn, 1) := dk_172 (dk_at dksX2_back_5 13 rfl rfl)
theorem dX2_back_130 : decode cX2_back 130 = .ok (.iconst 0, 1) := dk_3 (dk_at dksX2_back_5 14 rfl rfl)
theorem dX2_back_131 : decode cX2_back 131 = .ok (.istore 5, 2) := dk_54 5 (dk_at dksX2_back_5 15 rfl rfl)
theorem dX2_back_133 : decode cX2_back 133 = .ok (.iload 5, 2) := dk_21 5 (dk_at dksX2_back_5 17 rfl rfl)
theorem dX2_back_135 : decode cX2_back 135 = .ok (.bipush 9, 2) := dk_16 9 (dk_at dksX2_back_5 19 rfl rfl)
theorem dX2_back_137 : decode cX2_back 137 = .ok (.if_icmp .ge 36, 3) := dk_162 0 36 (dk_at dksX2_back_5 21 rfl rfl)
theorem dX2_back_140 : decode cX2_back 140 = .ok (.aload_n 0, 1) := dk_42 (dk_at dksX2_back_6 0 rfl rfl)
theorem dX2_back_141 : decode cX2_back 141 = .ok (.iconst 1, 1) := dk_4 (dk_at dksX2_back_6 1 rfl rfl)
theorem dX2_back_142 : decode cX2_back 142 = .ok (.iload 5, 2) := dk_21 5 (dk_at dksX2_back_6 2 rfl rfl)
theorem dX2_back_144 : decode cX2_back 144 = .ok (.iload 5, 2) := dk_21 5 (dk_at dksX2_back_6 4 rfl rfl)
theorem dX2_back_146 : decode cX2_back 146 = .ok (.aload_n 0, 1) := dk_42 (dk_at dksX2_back_6 6 rfl rfl)
theorem dX2_back_147 : decode cX2_back 147 = .ok (.getfield 142, 3) := dk_180 0 142 (dk_at dksX2_back_6 7 rfl rfl)
theorem dX2_back_150 : decode cX2_back 150 = .ok (.if_icmp .ge 13, 3) := dk_162 0 13 (dk_at dksX2_back_6 10 rfl rfl)
theorem dX2_back_153 : decode cX2_back 153 = .ok (.aload_n 0, 1) := dk_42 (dk_at dksX2_back_6 13 rfl rfl)
theorem dX2_back_154 : decode cX2_back 154 = .ok (.iload_n 1, 1) := dk_27 (dk_at dksX2_back_6 14 rfl rfl)
theorem dX2_back_155 : decode cX2_back 155 = .ok (.iload 5, 2) := dk_21 5 (dk_at dksX2_back_6 15 rfl rfl)
theorem dX2_back_157 : decode cX2_back 157 = .ok (.invokevirtual 101, 3) := dk_182 0 101 (dk_at dksX2_back_6 17 rfl rfl)
theorem dX2_back_160 : decode cX2_back 160 = .ok (.goto 4, 3) := dk_167 0 4 (dk_at dksX2_back_6 20 rfl rfl)
theorem dX2_back_163 : decode cX2_back 163 = .ok (.iconst 0, 1) := dk_3 (dk_at dksX2_back_6 23 rfl rfl)
theorem dX2_back_164 : decode cX2_back 164 = .ok (.invokevirtual 145, 3) := dk_182 0 145 (dk_at dksX2_back_7 0 rfl rfl)
theorem dX2_back_167 : decode cX2_back 167 = .ok (.iinc 5 1, 3) := dk_132 5 1 (dk_at dksX2_back_7 3 rfl rfl)
theorem dX2_back_170 : decode cX2_back 170 = .ok (.goto (-37), 3) := dk_167 255 219 (dk_at dksX2_back_7 6 rfl rfl)
theorem dX2_back_173 : decode cX2_back 173 = .ok (.aload_n 0, 1) := dk_42 (dk_at dksX2_back_7 9 rfl rfl)
theorem dX2_back_174 : decode cX2_back 174 = .ok (.iconst 0, 1) := dk_3 (dk_at dksX2_back_7 10 rfl rfl)
theorem dX2_back_175 : decode cX2_back 175 = .ok (.putfield 247, 3) := dk_181 0 247 (dk_at dksX2_back_7 11 rfl rfl)
theorem dX2_back_178 : decode cX2_back 178 = .ok (.aload_n 0, 1) := dk_42 (dk_at dksX2_back_7 14 rfl rfl)
theorem dX2_back_179 : decode cX2_back 179 = .ok (.iconst 0, 1) := dk_3 (dk_at dksX2_back_7 15 rfl rfl)
theorem dX2_back_180 : decode cX2_back 180 = .ok (.iload_n 2, 1) := dk_28 (dk_at dksX2_back_7 16 rfl rfl)
theorem dX2_back_181 : decode cX2_back 181 = .ok (.invokevirtual 259, 3) := dk_182 1 3 (dk_at dksX2_back_7 17 rfl rfl)
theorem dX2_back_184 : decode cX2_back 184 = .ok (.aload_n 0, 1) := dk_42 (dk_at dksX2_back_7 20 rfl rfl)
theorem dX2_back_185 : decode cX2_back 185 = .ok (.getfield 247, 3) := dk_180 0 247 (dk_at dksX2_back_7 21 rfl rfl)
theorem dX2_back_188 : decode cX2_back 188 = .ok (.ifCond .le 13, 3) := dk_158 0 13 (dk_at dksX2_back_8 0 rfl rfl)
theorem dX2_back_191 : decode cX2_back 191 = .ok (.aload_n 0, 1) := dk_42 (dk_at dksX2_back_8 3 rfl rfl)
theorem dX2_back_192 : decode cX2_back 192 = .ok (.iload_n 3, 1) := dk_29 (dk_at dksX2_back_8 4 rfl rfl)
theorem dX2_back_193 : decode cX2_back 193 = .ok (.aload_n 0, 1) := dk_42 (dk_at dksX2_back_8 5 rfl rfl)
theorem dX2_back_194 : decode cX2_back 194 = .ok (.getfield 70, 3) := dk_180 0 70 (dk_at dksX2_back_8 6 rfl rfl)
theorem dX2_back_197 : decode cX2_back 197 = .ok (.iload_n 2, 1) := dk_28 (dk_at dksX2_back_8 9 rfl rfl)
theorem dX2_back_198 : decode cX2_back 198 = .ok (.invokevirtual 221, 3) := dk_182 0 221 (dk_at dksX2_back_8 10 rfl rfl)
theorem dX2_back_201 : decode cX2_back 201 = .ok (.aload_n 0, 1) := dk_42 (dk_at dksX2_back_8 13 rfl rfl)
theorem dX2_back_202 : decode cX2_back 202 = .ok (.getfield 247, 3) := dk_180 0 247 (dk_at dksX2_back_8 14 rfl rfl)
theorem dX2_back_205 : decode cX2_back 205 = .ok (.ireturn, 1) := dk_172 (dk_at dksX2_back_8 17 rfl rfl)
abbrev cX2_layBack : ByteArray := prog_11_method_80_code
def yX2_layBack : MethodName := ⟨RX2, "layBack", "(II)V"⟩
def dkwX2_layBack_4 : List UInt8 := [167, 255, 201, 177]
abbrev dktX2_layBack_4 : List UInt8 := dkwX2_layBack_4 ++ []
def dkwX2_layBack_3 : List UInt8 := [96, 29, 182, 0, 192, 42, 180, 0, 67, 27, 29, 79, 42, 27, 4, 96, 28, 182, 1, 3, 132, 3, 1]
abbrev dktX2_layBack_3 : List UInt8 := dkwX2_layBack_3 ++ dktX2_layBack_4
def dkwX2_layBack_2 : List UInt8 := [42, 4, 27, 96, 29, 182, 0, 155, 153, 0, 36, 42, 4, 27, 96, 5, 27, 96, 182, 0, 212, 42, 5, 27]
abbrev dktX2_layBack_2 : List UInt8 := dkwX2_layBack_2 ++ dktX2_layBack_3
def dkwX2_layBack_1 : List UInt8 := [182, 0, 228, 42, 89, 180, 0, 247, 4, 96, 181, 0, 247, 177, 3, 62, 29, 42, 180, 0, 142, 162, 0, 53]
abbrev dktX2_layBack_1 : List UInt8 := dkwX2_layBack_1 ++ dktX2_layBack_2
def dkwX2_layBack_0 : List UInt8 := [27, 28, 160, 0, 36, 42, 4, 27, 96, 182, 1, 0, 153, 0, 25, 42, 180, 0, 247, 154, 0, 8, 42, 28]
abbrev dktX2_layBack_0 : List UInt8 := dkwX2_layBack_0 ++ dktX2_layBack_1
theorem dksX2_layBack_0 : cX2_layBack.data.toList.drop 0 = dktX2_layBack_0 := by decide +kernel
theorem dksX2_layBack_1 : cX2_layBack.data.toList.drop 24 = dktX2_layBack_1 := dk_seg dksX2_layBack_0 24 rfl rfl
theorem dksX2_layBack_2 : cX2_layBack.data.toList.drop 48 = dktX2_layBack_2 := dk_seg dksX2_layBack_1 24 rfl rfl
theorem dksX2_layBack_3 : cX2_layBack.data.toList.drop 72 = dktX2_layBack_3 := dk_seg dksX2_layBack_2 24 rfl rfl
theorem dksX2_layBack_4 : cX2_layBack.data.toList.drop 95 = dktX2_layBack_4 := dk_seg dksX2_layBack_3 23 rfl rfl
theorem dX2_layBack_0 : decode cX2_layBack 0 = .ok (.iload_n 1, 1) := dk_27 (dk_at dksX2_layBack_0 0 rfl rfl)
theorem dX2_layBack_1 : decode cX2_layBack 1 = .ok (.iload_n 2, 1) := dk_28 (dk_at dksX2_layBack_0 1 rfl rfl)
theorem dX2_layBack_2 : decode cX2_layBack 2 = .ok (.if_icmp .ne 36, 3) := dk_160 0 36 (dk_at dksX2_layBack_0 2 rfl rfl)
theorem dX2_layBack_5 : decode cX2_layBack 5 = .ok (.aload_n 0, 1) := dk_42 (dk_at dksX2_layBack_0 5 rfl rfl)
theorem dX2_layBack_6 : decode cX2_layBack 6 = .ok (.iconst 1, 1) := dk_4 (dk_at dksX2_layBack_0 6 rfl rfl)
theorem dX2_layBack_7 : decode cX2_layBack 7 = .ok (.iload_n 1, 1) := dk_27 (dk_at dksX2_layBack_0 7 rfl rfl)
theorem dX2_layBack_8 : decode cX2_layBack 8 = .ok (.iadd, 1) := dk_96 (dk_at dksX2_layBack_0 8 rfl rfl)
theorem dX2_layBack_9 : decode cX2_layBack 9 = .ok (.invokevirtual 256, 3) := dk_182 1 0 (dk_at dksX2_layBack_0 9 rfl rfl)
theorem dX2_layBack_12 : decode cX2_layBack 12 = .ok (.ifCond .eq 25, 3) := dk_153 0 25 (dk_at dksX2_layBack_0 12 rfl rfl)
theorem dX2_layBack_15 : decode cX2_layBack 15 = .ok (.aload_n 0, 1) := dk_42 (dk_at dksX2_layBack_0 15 rfl rfl)
theorem dX2_layBack_16 : decode cX2_layBack 16 = .ok (.getfield 247, 3) := dk_180 0 247 (dk_at dksX2_layBack_0 16 rfl rfl)
theorem dX2_layBack_19 : decode cX2_layBack 19 = .ok (.ifCond .ne 8, 3) := dk_154 0 8 (dk_at dksX2_layBack_0 19 rfl rfl)
theorem dX2_layBack_22 : decode cX2_layBack 22 = .ok (.aload_n 0, 1) := dk_42 (dk_at dksX2_layBack_0 22 rfl rfl)
theorem dX2_layBack_23 : decode cX2_layBack 23 = .ok (.iload_n 2, 1) := dk_28 (dk_at dksX2_layBack_0 23 rfl rfl)
theorem dX2_layBack_24 : decode cX2_layBack 24 = .ok (.invokevirtual 228, 3) := dk_182 0 228 (dk_at dksX2_layBack_1 0 rfl rfl)
theorem dX2_layBack_27 : decode cX2_layBack 27 = .ok (.aload_n 0, 1) := dk_42 (dk_at dksX2_layBack_1 3 rfl rfl)
theorem dX2_layBack_28 : decode cX2_layBack 28 = .ok (.dup, 1) := dk_89 (dk_at dksX2_layBack_1 4 rfl rfl)
theorem dX2_layBack_29 : decode cX2_layBack 29 = .ok (.getfield 247, 3) := dk_180 0 247 (dk_at dksX2_layBack_1 5 rfl rfl)
theorem dX2_layBack_32 : decode cX2_layBack 32 = .ok (.iconst 1, 1) := dk_4 (dk_at dksX2_layBack_1 8 rfl rfl)
theorem dX2_layBack_33 : decode cX2_layBack 33 = .ok (.iadd, 1) := dk_96 (dk_at dksX2_layBack_1 9 rfl rfl)
theorem dX2_layBack_34 : decode cX2_layBack 34 = .ok (.putfield 247, 3) := dk_181 0 247 (dk_at dksX2_layBack_1 10 rfl rfl)
theorem dX2_layBack_37 : decode cX2_layBack 37 = .ok (.return_, 1) := dk_177 (dk_at dksX2_layBack_1 13 rfl rfl)
theorem dX2_layBack_38 : decode cX2_layBack 38 = .ok (.iconst 0, 1) := dk_3 (dk_at dksX2_layBack_1 14 rfl rfl)
theorem dX2_layBack_39 : decode cX2_layBack 39 = .ok (.istore_n 3, 1) := dk_62 (dk_at dksX2_layBack_1 15 rfl rfl)
theorem dX2_layBack_40 : decode cX2_layBack 40 = .ok (.iload_n 3, 1) := dk_29 (dk_at dksX2_layBack_1 16 rfl rfl)
theorem dX2_layBack_41 : decode cX2_layBack 41 = .ok (.aload_n 0, 1) := dk_42 (dk_at dksX2_layBack_1 17 rfl rfl)
theorem dX2_layBack_42 : decode cX2_layBack 42 = .ok (.getfield 142, 3) := dk_180 0 142 (dk_at dksX2_layBack_1 18 rfl rfl)
theorem dX2_layBack_45 : decode cX2_layBack 45 = .ok (.if_icmp .ge 53, 3) := dk_162 0 53 (dk_at dksX2_layBack_1 21 rfl rfl)
theorem dX2_layBack_48 : decode cX2_layBack 48 = .ok (.aload_n 0, 1) := dk_42 (dk_at dksX2_layBack_2 0 rfl rfl)
theorem dX2_layBack_49 : decode cX2_layBack 49 = .ok (.iconst 1, 1) := dk_4 (dk_at dksX2_layBack_2 1 rfl rfl)
theorem dX2_layBack_50 : decode cX2_layBack 50 = .ok (.iload_n 1, 1) := dk_27 (dk_at dksX2_layBack_2 2 rfl rfl)
theorem dX2_layBack_51 : decode cX2_layBack 51 = .ok (.iadd, 1) := dk_96 (dk_at dksX2_layBack_2 3 rfl rfl)
theorem dX2_layBack_52 : decode cX2_layBack 52 = .ok (.iload_n 3, 1) := dk_29 (dk_at dksX2_layBack_2 4 rfl rfl)
theorem dX2_layBack_53 : decode cX2_layBack 53 = .ok (.invokevirtual 155, 3) := dk_182 0 155 (dk_at dksX2_layBack_2 5 rfl rfl)
theorem dX2_layBack_56 : decode cX2_layBack 56 = .ok (.ifCond .eq 36, 3) := dk_153 0 36 (dk_at dksX2_layBack_2 8 rfl rfl)
theorem dX2_layBack_59 : decode cX2_layBack 59 = .ok (.aload_n 0, 1) := dk_42 (dk_at dksX2_layBack_2 11 rfl rfl)
theorem dX2_layBack_60 : decode cX2_layBack 60 = .ok (.iconst 1, 1) := dk_4 (dk_at dksX2_layBack_2 12 rfl rfl)
theorem dX2_layBack_61 : decode cX2_layBack 61 = .ok (.iload_n 1, 1) := dk_27 (dk_at dksX2_layBack_2 13 rfl rfl)
theorem dX2_layBack_62 : decode cX2_layBack 62 = .ok (.iadd, 1) := dk_96 (dk_at dksX2_layBack_2 14 rfl rfl)
theorem dX2_layBack_63 : decode cX2_layBack 63 = .ok (.iconst 2, 1) := dk_5 (dk_at dksX2_layBack_2 15 rfl rfl)
theorem dX2_layBack_64 : decode cX2_layBack 64 = .ok (.iload_n 1, 1) := dk_27 (dk_at dksX2_layBack_2 16 rfl rfl)
theorem dX2_layBack_65 : decode cX2_layBack 65 = .ok (.iadd, 1) := dk_96 (dk_at dksX2_layBack_2 17 rfl rfl)
theorem dX2_layBack_66 : decode cX2_layBack 66 = .ok (.invokevirtual 212, 3) := dk_182 0 212 (dk_at dksX2_layBack_2 18 rfl rfl)
theorem dX2_layBack_69 : decode cX2_layBack 69 = .ok (.aload_n 0, 1) := dk_42 (dk_at dksX2_layBack_2 21 rfl rfl)
theorem dX2_layBack_70 : decode cX2_layBack 70 = .ok (.iconst 2, 1) := dk_5 (dk_at dksX2_layBack_2 22 rfl rfl)
theorem dX2_layBack_71 : decode cX2_layBack 71 = .ok (.iload_n 1, 1) := dk_27 (dk_at dksX2_layBack_2 23 rfl rfl)
theorem dX2_layBack_72 : decode cX2_layBack 72 = .ok (.iadd, 1) := dk_96 (dk_at dksX2_layBack_3 0 rfl rfl)
theorem dX2_layBack_73 : decode cX2_layBack 73 = .ok (.iload_n 3, 1) := dk_29 (dk_at dksX2_layBack_3 1 rfl rfl)
theorem dX2_layBack_74 : decode cX2_layBack 74 = .ok (.invokevirtual 192, 3) := dk_182 0 192 (dk_at dksX2_layBack_3 2 rfl rfl)
theorem dX2_layBack_77 : decode cX2_layBack 77 = .ok (.aload_n 0, 1) := dk_42 (dk_at dksX2_layBack_3 5 rfl rfl)
theorem dX2_layBack_78 : decode cX2_layBack 78 = .ok (.getfield 67, 3) := dk_180 0 67 (dk_at dksX2_layBack_3 6 rfl rfl)
theorem dX2_layBack_81 : decode cX2_layBack 81 = .ok (.iload_n 1, 1) := dk_27 (dk_at dksX2_layBack_3 9 rfl rfl)
theorem dX2_layBack_82 : decode cX2_layBack 82 = .ok (.iload_n 3, 1) := dk_29 (dk_at dksX2_layBack_3 10 rfl rfl)
theorem dX2_layBack_83 : decode cX2_layBack 83 = .ok (.iastore, 1) := dk_79 (dk_at dksX2_layBack_3 11 rfl rfl)
theorem dX2_layBack_84 : decode cX2_layBack 84 = .ok (.aload_n 0, 1) := dk_42 (dk_at dksX2_layBack_3 12 rfl rfl)
theorem dX2_layBack_85 : decode cX2_layBack 85 = .ok (.iload_n 1, 1) := dk_27 (dk_at dksX2_layBack_3 13 rfl rfl)
theorem dX2_layBack_86 : decode cX2_layBack 86 = .ok (.iconst 1, 1) := dk_4 (dk_at dksX2_layBack_3 14 rfl rfl)
theorem dX2_layBack_87 : decode cX2_layBack 87 = .ok (.iadd, 1) := dk_96 (dk_at dksX2_layBack_3 15 rfl rfl)
theorem dX2_layBack_88 : decode cX2_layBack 88 = .ok (.iload_n 2, 1) := dk_28 (dk_at dksX2_layBack_3 16 rfl rfl)
theorem dX2_layBack_89 : decode cX2_layBack 89 = .ok (.invokevirtual 259, 3) := dk_182 1 3 (dk_at dksX2_layBack_3 17 rfl rfl)
theorem dX2_layBack_92 : decode cX2_layBack 92 = .ok (.iinc 3 1, 3) := dk_132 3 1 (dk_at dksX2_layBack_3 20 rfl rfl)
theorem dX2_layBack_95 : decode cX2_layBack 95 = .ok (.goto (-55), 3) := dk_167 255 201 (dk_at dksX2_layBack_4 0 rfl rfl)
theorem dX2_layBack_98 : decode cX2_layBack 98 = .ok (.return_, 1) := dk_177 (dk_at dksX2_layBack_4 3 rfl rfl)
abbrev cX2_isNow : ByteArray := prog_11_method_79_code
def yX2_isNow : MethodName := ⟨RX2, "isNow", "(I)Z"⟩
def dkwX2_isNow_1 : List UInt8 := [29, 182, 0, 152, 160, 0, 7, 4, 167, 0, 4, 3, 61, 132, 3, 1, 167, 255, 220, 28, 172]
abbrev dktX2_isNow_1 : List UInt8 := dkwX2_isNow_1 ++ []
def dkwX2_isNow_0 : List UInt8 := [4, 61, 3, 62, 29, 42, 180, 0, 142, 162, 0, 34, 28, 153, 0, 22, 42, 27, 29, 182, 0, 152, 42, 3]
abbrev dktX2_isNow_0 : List UInt8 := dkwX2_isNow_0 ++ dktX2_isNow_1
theorem dksX2_isNow_0 : cX2_isNow.data.toList.drop 0 = dktX2_isNow_0 := by decide +kernel
theorem dksX2_isNow_1 : cX2_isNow.data.toList.drop 24 = dktX2_isNow_1 := dk_seg dksX2_isNow_0 24 rfl rfl
theorem dX2_isNow_0 : decode cX2_isNow 0 = .ok (.iconst 1, 1) := dk_4 (dk_at dksX2_isNow_0 0 rfl rfl)
theorem dX2_isNow_1 : decode cX2_isNow 1 = .ok (.istore_n 2, 1) := dk_61 (dk_at dksX2_isNow_0 1 rfl rfl)
theorem dX2_isNow_2 : decode cX2_isNow 2 = .ok (.iconst 0, 1) := dk_3 (dk_at dksX2_isNow_0 2 rfl rfl)
theorem dX2_isNow_3 : decode cX2_isNow 3 = .ok (.istore_n 3, 1) := dk_62 (dk_at dksX2_isNow_0 3 rfl rfl)
theorem dX2_isNow_4 : decode cX2_isNow 4 = .ok (.iload_n 3, 1) := dk_29 (dk_at dksX2_isNow_0 4 rfl rfl)
theorem dX2_isNow_5 : decode cX2_isNow 5 = .ok (.aload_n 0, 1) := dk_42 (dk_at dksX2_isNow_0 5 rfl rfl)
theorem dX2_isNow_6 : decode cX2_isNow 6 = .ok (.getfield 142, 3) := dk_180 0 142 (dk_at dksX2_isNow_0 6 rfl rfl)
theorem dX2_isNow_9 : decode cX2_isNow 9 = .ok (.if_icmp .ge 34, 3) := dk_162 0 34 (dk_at dksX2_isNow_0 9 rfl rfl)
theorem dX2_isNow_12 : decode cX2_isNow 12 = .ok (.iload_n 2, 1) := dk_28 (dk_at dksX2_isNow_0 12 rfl rfl)
theorem dX2_isNow_13 : decode cX2_isNow 13 = .ok (.ifCond .eq 22, 3) := dk_153 0 22 (dk_at dksX2_isNow_0 13 rfl rfl)
theorem dX2_isNow_16 : decode cX2_isNow 16 = .ok (.aload_n 0, 1) := dk_42 (dk_at dksX2_isNow_0 16 rfl rfl)
theorem dX2_isNow_17 : decode cX2_isNow 17 = .ok (.iload_n 1, 1) := dk_27 (dk_at dksX2_isNow_0 17 rfl rfl)
theorem dX2_isNow_18 : decode cX2_isNow 18 = .ok (.iload_n 3, 1) := dk_29 (dk_at dksX2_isNow_0 18 rfl rfl)
theorem dX2_isNow_19 : decode cX2_isNow 19 = .ok (.invokevirtual 152, 3) := dk_182 0 152 (dk_at dksX2_isNow_0 19 rfl rfl)
theorem dX2_isNow_22 : decode cX2_isNow 22 = .ok (.aload_n 0, 1) := dk_42 (dk_at dksX2_isNow_0 22 rfl rfl)
theorem dX2_isNow_23 : decode cX2_isNow 23 = .ok (.iconst 0, 1) := dk_3 (dk_at dksX2_isNow_0 23 rfl rfl)
theorem dX2_isNow_24 : decode cX2_isNow 24 = .ok (.iload_n 3, 1) := dk_29 (dk_at dksX2_isNow_1 0 rfl rfl)
theorem dX2_isNow_25 : decode cX2_isNow 25 = .ok (.invokevirtual 152, 3) := dk_182 0 152 (dk_at dksX2_isNow_1 1 rfl rfl)
theorem dX2_isNow_28 : decode cX2_isNow 28 = .ok (.if_icmp .ne 7, 3) := dk_160 0 7 (dk_at dksX2_isNow_1 4 rfl rfl)
theorem dX2_isNow_31 : decode cX2_isNow 31 = .ok (.iconst 1, 1) := dk_4 (dk_at dksX2_isNow_1 7 rfl rfl)
theorem dX2_isNow_32 : decode cX2_isNow 32 = .ok (.goto 4, 3) := dk_167 0 4 (dk_at dksX2_isNow_1 8 rfl rfl)
theorem dX2_isNow_35 : decode cX2_isNow 35 = .ok (.iconst 0, 1) := dk_3 (dk_at dksX2_isNow_1 11 rfl rfl)
theorem dX2_isNow_36 : decode cX2_isNow 36 = .ok (.istore_n 2, 1) := dk_61 (dk_at dksX2_isNow_1 12 rfl rfl)
theorem dX2_isNow_37 : decode cX2_isNow 37 = .ok (.iinc 3 1, 3) := dk_132 3 1 (dk_at dksX2_isNow_1 13 rfl rfl)
theorem dX2_isNow_40 : decode cX2_isNow 40 = .ok (.goto (-36), 3) := dk_167 255 220 (dk_at dksX2_isNow_1 16 rfl rfl)
theorem dX2_isNow_43 : decode cX2_isNow 43 = .ok (.iload_n 2, 1) := dk_28 (dk_at dksX2_isNow_1 19 rfl rfl)
theorem dX2_isNow_44 : decode cX2_isNow 44 = .ok (.ireturn, 1) := dk_172 (dk_at dksX2_isNow_1 20 rfl rfl)
abbrev cX2_ring : ByteArray := prog_11_method_85_code
def yX2_ring : MethodName := ⟨RX2, "ring", "(I)I"⟩
def dkwX2_ring_1 : List UInt8 := [27, 182, 1, 12, 172]
abbrev dktX2_ring_1 : List UInt8 := dkwX2_ring_1 ++ []
def dkwX2_ring_0 : List UInt8 := [27, 184, 0, 93, 154, 0, 5, 2, 172, 42, 27, 182, 1, 9, 61, 28, 156, 0, 7, 28, 167, 0, 8, 42]
abbrev dktX2_ring_0 : List UInt8 := dkwX2_ring_0 ++ dktX2_ring_1
theorem dksX2_ring_0 : cX2_ring.data.toList.drop 0 = dktX2_ring_0 := by decide +kernel
theorem dksX2_ring_1 : cX2_ring.data.toList.drop 24 = dktX2_ring_1 := dk_seg dksX2_ring_0 24 rfl rfl
theorem dX2_ring_0 : decode cX2_ring 0 = .ok (.iload_n 1, 1) := dk_27 (dk_at dksX2_ring_0 0 rfl rfl)
theorem dX2_ring_1 : decode cX2_ring 1 = .ok (.invokestatic 93, 3) := dk_184 0 93 (dk_at dksX2_ring_0 1 rfl rfl)
theorem dX2_ring_4 : decode cX2_ring 4 = .ok (.ifCond .ne 5, 3) := dk_154 0 5 (dk_at dksX2_ring_0 4 rfl rfl)
theorem dX2_ring_7 : decode cX2_ring 7 = .ok (.iconst (-1), 1) := dk_2 (dk_at dksX2_ring_0 7 rfl rfl)
theorem dX2_ring_8 : decode cX2_ring 8 = .ok (.ireturn, 1) := dk_172 (dk_at dksX2_ring_0 8 rfl rfl)
theorem dX2_ring_9 : decode cX2_ring 9 = .ok (.aload_n 0, 1) := dk_42 (dk_at dksX2_ring_0 9 rfl rfl)
theorem dX2_ring_10 : decode cX2_ring 10 = .ok (.iload_n 1, 1) := dk_27 (dk_at dksX2_ring_0 10 rfl rfl)
theorem dX2_ring_11 : decode cX2_ring 11 = .ok (.invokevirtual 265, 3) := dk_182 1 9 (dk_at dksX2_ring_0 11 rfl rfl)
theorem dX2_ring_14 : decode cX2_ring 14 = .ok (.istore_n 2, 1) := dk_61 (dk_at dksX2_ring_0 14 rfl rfl)
theorem dX2_ring_15 : decode cX2_ring 15 = .ok (.iload_n 2, 1) := dk_28 (dk_at dksX2_ring_0 15 rfl rfl)
theorem dX2_ring_16 : decode cX2_ring 16 = .ok (.ifCond .ge 7, 3) := dk_156 0 7 (dk_at dksX2_ring_0 16 rfl rfl)
theorem dX2_ring_19 : decode cX2_ring 19 = .ok (.iload_n 2, 1) := dk_28 (dk_at dksX2_ring_0 19 rfl rfl)
theorem dX2_ring_20 : decode cX2_ring 20 = .ok (.goto 8, 3) := dk_167 0 8 (dk_at dksX2_ring_0 20 rfl rfl)
theorem dX2_ring_23 : decode cX2_ring 23 = .ok (.aload_n 0, 1) := dk_42 (dk_at dksX2_ring_0 23 rfl rfl)
theorem dX2_ring_24 : decode cX2_ring 24 = .ok (.iload_n 1, 1) := dk_27 (dk_at dksX2_ring_1 0 rfl rfl)
theorem dX2_ring_25 : decode cX2_ring 25 = .ok (.invokevirtual 268, 3) := dk_182 1 12 (dk_at dksX2_ring_1 1 rfl rfl)
theorem dX2_ring_28 : decode cX2_ring 28 = .ok (.ireturn, 1) := dk_172 (dk_at dksX2_ring_1 4 rfl rfl)
abbrev cX2_needPairs : ByteArray := prog_11_method_82_code
def yX2_needPairs : MethodName := ⟨RX2, "needPairs", "(I)I"⟩
def dkwX2_needPairs_4 : List UInt8 := [132, 3, 1, 167, 255, 197, 28, 153, 0, 7, 3, 167, 0, 8, 42, 6, 182, 0, 97, 172]
abbrev dktX2_needPairs_4 : List UInt8 := dkwX2_needPairs_4 ++ []
def dkwX2_needPairs_3 : List UInt8 := [167, 0, 17, 42, 27, 29, 182, 0, 101, 3, 4, 184, 0, 83, 153, 0, 7, 4, 167, 0, 4, 3, 61]
abbrev dktX2_needPairs_3 : List UInt8 := dkwX2_needPairs_3 ++ dktX2_needPairs_4
def dkwX2_needPairs_2 : List UInt8 := [153, 0, 43, 29, 5, 112, 154, 0, 19, 42, 42, 27, 29, 182, 0, 101, 182, 0, 174, 153, 0, 24]
abbrev dktX2_needPairs_2 : List UInt8 := dkwX2_needPairs_2 ++ dktX2_needPairs_3
def dkwX2_needPairs_1 : List UInt8 := [160, 0, 9, 42, 8, 182, 0, 97, 172, 4, 61, 3, 62, 29, 42, 180, 0, 17, 27, 46, 162, 0, 55, 28]
abbrev dktX2_needPairs_1 : List UInt8 := dkwX2_needPairs_1 ++ dktX2_needPairs_2
def dkwX2_needPairs_0 : List UInt8 := [42, 180, 0, 17, 27, 46, 156, 0, 9, 42, 4, 182, 0, 97, 172, 42, 180, 0, 17, 27, 46, 5, 112, 4]
abbrev dktX2_needPairs_0 : List UInt8 := dkwX2_needPairs_0 ++ dktX2_needPairs_1
theorem dksX2_needPairs_0 : cX2_needPairs.data.toList.drop 0 = dktX2_needPairs_0 := by decide +kernel
theorem dksX2_needPairs_1 : cX2_needPairs.data.toList.drop 24 = dktX2_needPairs_1 := dk_seg dksX2_needPairs_0 24 rfl rfl
theorem dksX2_needPairs_2 : cX2_needPairs.data.toList.drop 48 = dktX2_needPairs_2 := dk_seg dksX2_needPairs_1 24 rfl rfl
theorem dksX2_needPairs_3 : cX2_needPairs.data.toList.drop 70 = dktX2_needPairs_3 := dk_seg dksX2_needPairs_2 22 rfl rfl
theorem dksX2_needPairs_4 : cX2_needPairs.data.toList.drop 93 = dktX2_needPairs_4 := dk_seg dksX2_needPairs_3 23 rfl rfl
theorem dX2_needPairs_0 : decode cX2_needPairs 0 = .ok (.aload_n 0, 1) := dk_42 (dk_at dksX2_needPairs_0 0 rfl rfl)
theorem dX2_needPairs_1 : decode cX2_needPairs 1 = .ok (.getfield 17, 3) := dk_180 0 17 (dk_at dksX2_needPairs_0 1 rfl rfl)
theorem dX2_needPairs_4 : decode cX2_needPairs 4 = .ok (.iload_n 1, 1) := dk_27 (dk_at dksX2_needPairs_0 4 rfl rfl)
theorem dX2_needPairs_5 : decode cX2_needPairs 5 = .ok (.iaload, 1) := dk_46 (dk_at dksX2_needPairs_0 5 rfl rfl)
theorem dX2_needPairs_6 : decode cX2_needPairs 6 = .ok (.ifCond .ge 9, 3) := dk_156 0 9 (dk_at dksX2_needPairs_0 6 rfl rfl)
theorem dX2_needPairs_9 : decode cX2_needPairs 9 = .ok (.aload_n 0, 1) := dk_42 (dk_at dksX2_needPairs_0 9 rfl rfl)
theorem dX2_needPairs_10 : decode cX2_needPairs 10 = .ok (.iconst 1, 1) := dk_4 (dk_at dksX2_needPairs_0 10 rfl rfl)
theorem dX2_needPairs_11 : decode cX2_needPairs 11 = .ok (.invokevirtual 97, 3) := dk_182 0 97 (dk_at dksX2_needPairs_0 11 rfl rfl)
theorem dX2_needPairs_14 : decode cX2_needPairs 14 = .ok (.ireturn, 1) := dk_172 (dk_at dksX2_needPairs_0 14 rfl rfl)
theorem dX2_needPairs_15 : decode cX2_needPairs 15 = .ok (.aload_n 0, 1) := dk_42 (dk_at dksX2_needPairs_0 15 rfl rfl)
theorem dX2_needPairs_16 : decode cX2_needPairs 16 = .ok (.getfield 17, 3) := dk_180 0 17 (dk_at dksX2_needPairs_0 16 rfl rfl)
theorem dX2_needPairs_19 : decode cX2_needPairs 19 = .ok (.iload_n 1, 1) := dk_27 (dk_at dksX2_needPairs_0 19 rfl rfl)
theorem dX2_needPairs_20 : decode cX2_needPairs 20 = .ok (.iaload, 1) := dk_46 (dk_at dksX2_needPairs_0 20 rfl rfl)
theorem dX2_needPairs_21 : decode cX2_needPairs 21 = .ok (.iconst 2, 1) := dk_5 (dk_at dksX2_needPairs_0 21 rfl rfl)
theorem dX2_needPairs_22 : decode cX2_needPairs 22 = .ok (.irem, 1) := dk_112 (dk_at dksX2_needPairs_0 22 rfl rfl)
theorem dX2_needPairs_23 : decode cX2_needPairs 23 = .ok (.iconst 1, 1) := dk_4 (dk_at dksX2_needPairs_0 23 rfl rfl)
theorem dX2_needPairs_24 : decode cX2_needPairs 24 = .ok (.if_icmp .ne 9, 3) := dk_160 0 9 (dk_at dksX2_needPairs_1 0 rfl rfl)
theorem dX2_needPairs_27 : decode cX2_needPairs 27 = .ok (.aload_n 0, 1) := dk_42 (dk_at dksX2_needPairs_1 3 rfl rfl)
theorem dX2_needPairs_28 : decode cX2_needPairs 28 = .ok (.iconst 5, 1) := dk_8 (dk_at dksX2_needPairs_1 4 rfl rfl)
theorem dX2_needPairs_29 : decode cX2_needPairs 29 = .ok (.invokevirtual 97, 3) := dk_182 0 97 (dk_at dksX2_needPairs_1 5 rfl rfl)
theorem dX2_needPairs_32 : decode cX2_needPairs 32 = .ok (.ireturn, 1) := dk_172 (dk_at dksX2_needPairs_1 8 rfl rfl)
theorem dX2_needPairs_33 : decode cX2_needPairs 33 = .ok (.iconst 1, 1) := dk_4 (dk_at dksX2_needPairs_1 9 rfl rfl)
theorem dX2_needPairs_34 : decode cX2_needPairs 34 = .ok (.istore_n 2, 1) := dk_61 (dk_at dksX2_needPairs_1 10 rfl rfl)
theorem dX2_needPairs_35 : decode cX2_needPairs 35 = .ok (.iconst 0, 1) := dk_3 (dk_at dksX2_needPairs_1 11 rfl rfl)
theorem dX2_needPairs_36 : decode cX2_needPairs 36 = .ok (.istore_n 3, 1) := dk_62 (dk_at dksX2_needPairs_1 12 rfl rfl)
theorem dX2_needPairs_37 : decode cX2_needPairs 37 = .ok (.iload_n 3, 1) := dk_29 (dk_at dksX2_needPairs_1 13 rfl rfl)
theorem dX2_needPairs_38 : decode cX2_needPairs 38 = .ok (.aload_n 0, 1) := dk_42 (dk_at dksX2_needPairs_1 14 rfl rfl)
theorem dX2_needPairs_39 : decode cX2_needPairs 39 = .ok (.getfield 17, 3) := dk_180 0 17 (dk_at dksX2_needPairs_1 15 rfl rfl)
theorem dX2_needPairs_42 : decode cX2_needPairs 42 = .ok (.iload_n 1, 1) := dk_27 (dk_at dksX2_needPairs_1 18 rfl rfl)
theorem dX2_needPairs_43 : decode cX2_needPairs 43 = .ok (.iaload, 1) := dk_46 (dk_at dksX2_needPairs_1 19 rfl rfl)
theorem dX2_needPairs_44 : decode cX2_needPairs 44 = .ok (.if_icmp .ge 55, 3) := dk_162 0 55 (dk_at dksX2_needPairs_1 20 rfl rfl)
theorem dX2_needPairs_47 : decode cX2_needPairs 47 = .ok (.iload_n 2, 1) := dk_28 (dk_at dksX2_needPairs_1 23 rfl rfl)
theorem dX2_needPairs_48 : decode cX2_needPairs 48 = .ok (.ifCond .eq 43, 3) := dk_153 0 43 (dk_at dksX2_needPairs_2 0 rfl rfl)
theorem dX2_needPairs_51 : decode cX2_needPairs 51 = .ok (.iload_n 3, 1) := dk_29 (dk_at dksX2_needPairs_2 3 rfl rfl)
theorem dX2_needPairs_52 : decode cX2_needPairs 52 = .ok (.iconst 2, 1) := dk_5 (dk_at dksX2_needPairs_2 4 rfl rfl)
theorem dX2_needPairs_53 : decode cX2_needPairs 53 = .ok (.irem, 1) := dk_112 (dk_at dksX2_needPairs_2 5 rfl rfl)
theorem dX2_needPairs_54 : decode cX2_needPairs 54 = .ok (.ifCond .ne 19, 3) := dk_154 0 19 (dk_at dksX2_needPairs_2 6 rfl rfl)
theorem dX2_needPairs_57 : decode cX2_needPairs 57 = .ok (.aload_n 0, 1) := dk_42 (dk_at dksX2_needPairs_2 9 rfl rfl)
theorem dX2_needPairs_58 : decode cX2_needPairs 58 = .ok (.aload_n 0, 1) := dk_42 (dk_at dksX2_needPairs_2 10 rfl rfl)
theorem dX2_needPairs_59 : decode cX2_needPairs 59 = .ok (.iload_n 1, 1) := dk_27 (dk_at dksX2_needPairs_2 11 rfl rfl)
theorem dX2_needPairs_60 : decode cX2_needPairs 60 = .ok (.iload_n 3, 1) := dk_29 (dk_at dksX2_needPairs_2 12 rfl rfl)
theorem dX2_needPairs_61 : decode cX2_needPairs 61 = .ok (.invokevirtual 101, 3) := dk_182 0 101 (dk_at dksX2_needPairs_2 13 rfl rfl)
theorem dX2_needPairs_64 : decode cX2_needPairs 64 = .ok (.invokevirtual 174, 3) := dk_182 0 174 (dk_at dksX2_needPairs_2 16 rfl rfl)
theorem dX2_needPairs_67 : decode cX2_needPairs 67 = .ok (.ifCond .eq 24, 3) := dk_153 0 24 (dk_at dksX2_needPairs_2 19 rfl rfl)
theorem dX2_needPairs_70 : decode cX2_needPairs 70 = .ok (.goto 17, 3) := dk_167 0 17 (dk_at dksX2_needPairs_3 0 rfl rfl)
theorem dX2_needPairs_73 : decode cX2_needPairs 73 = .ok (.aload_n 0, 1) := dk_42 (dk_at dksX2_needPairs_3 3 rfl rfl)
theorem dX2_needPairs_74 : decode cX2_needPairs 74 = .ok (.iload_n 1, 1) := dk_27 (dk_at dksX2_needPairs_3 4 rfl rfl)
theorem dX2_needPairs_75 : decode cX2_needPairs 75 = .ok (.iload_n 3, 1) := dk_29 (dk_at dksX2_needPairs_3 5 rfl rfl)
theorem dX2_needPairs_76 : decode cX2_needPairs 76 = .ok (.invokevirtual 101, 3) := dk_182 0 101 (dk_at dksX2_needPairs_3 6 rfl rfl)
theorem dX2_needPairs_79 : decode cX2_needPairs 79 = .ok (.iconst 0, 1) := dk_3 (dk_at dksX2_needPairs_3 9 rfl rfl)
theorem dX2_needPairs_80 : decode cX2_needPairs 80 = .ok (.iconst 1, 1) := dk_4 (dk_at dksX2_needPairs_3 10 rfl rfl)
theorem dX2_needPairs_81 : decode cX2_needPairs 81 = .ok (.invokestatic 83, 3) := dk_184 0 83 (dk_at dksX2_needPairs_3 11 rfl rfl)
theorem dX2_needPairs_84 : decode cX2_needPairs 84 = .ok (.ifCond .eq 7, 3) := dk_153 0 7 (dk_at dksX2_needPairs_3 14 rfl rfl)
theorem dX2_needPairs_87 : decode cX2_needPairs 87 = .ok (.iconst 1, 1) := dk_4 (dk_at dksX2_needPairs_3 17 rfl rfl)
theorem dX2_needPairs_88 : decode cX2_needPairs 88 = .ok (.goto 4, 3) := dk_167 0 4 (dk_at dksX2_needPairs_3 18 rfl rfl)
theorem dX2_needPairs_91 : decode cX2_needPairs 91 = .ok (.iconst 0, 1) := dk_3 (dk_at dksX2_needPairs_3 21 rfl rfl)
theorem dX2_needPairs_92 : decode cX2_needPairs 92 = .ok (.istore_n 2, 1) := dk_61 (dk_at dksX2_needPairs_3 22 rfl rfl)
theorem dX2_needPairs_93 : decode cX2_needPairs 93 = .ok (.iinc 3 1, 3) := dk_132 3 1 (dk_at dksX2_needPairs_4 0 rfl rfl)
theorem dX2_needPairs_96 : decode cX2_needPairs 96 = .ok (.goto (-59), 3) := dk_167 255 197 (dk_at dksX2_needPairs_4 3 rfl rfl)
theorem dX2_needPairs_99 : decode cX2_needPairs 99 = .ok (.iload_n 2, 1) := dk_28 (dk_at dksX2_needPairs_4 6 rfl rfl)
theorem dX2_needPairs_100 : decode cX2_needPairs 100 = .ok (.ifCond .eq 7, 3) := dk_153 0 7 (dk_at dksX2_needPairs_4 7 rfl rfl)
theorem dX2_needPairs_103 : decode cX2_needPairs 103 = .ok (.iconst 0, 1) := dk_3 (dk_at dksX2_needPairs_4 10 rfl rfl)
theorem dX2_needPairs_104 : decode cX2_needPairs 104 = .ok (.goto 8, 3) := dk_167 0 8 (dk_at dksX2_needPairs_4 11 rfl rfl)
theorem dX2_needPairs_107 : decode cX2_needPairs 107 = .ok (.aload_n 0, 1) := dk_42 (dk_at dksX2_needPairs_4 14 rfl rfl)
theorem dX2_needPairs_108 : decode cX2_needPairs 108 = .ok (.iconst 3, 1) := dk_6 (dk_at dksX2_needPairs_4 15 rfl rfl)
theorem dX2_needPairs_109 : decode cX2_needPairs 109 = .ok (.invokevirtual 97, 3) := dk_182 0 97 (dk_at dksX2_needPairs_4 16 rfl rfl)
theorem dX2_needPairs_112 : decode cX2_needPairs 112 = .ok (.ireturn, 1) := dk_172 (dk_at dksX2_needPairs_4 19 rfl rfl)
abbrev cX2_underSet : ByteArray := prog_11_method_84_code
def yX2_underSet : MethodName := ⟨RX2, "underSet", "(I)I"⟩
def dkwX2_underSet_4 : List UInt8 := [132, 3, 1, 167, 255, 163, 28, 172]
abbrev dktX2_underSet_4 : List UInt8 := dkwX2_underSet_4 ++ []
def dkwX2_underSet_3 : List UInt8 := [54, 4, 132, 5, 2, 167, 255, 198, 28, 21, 4, 153, 0, 9, 4, 29, 120, 167, 0, 4, 3, 128, 61]
abbrev dktX2_underSet_3 : List UInt8 := dkwX2_underSet_3 ++ dktX2_underSet_4
def dkwX2_underSet_2 : List UInt8 := [21, 5, 4, 96, 182, 0, 101, 4, 160, 0, 7, 4, 167, 0, 4, 3, 160, 0, 7, 4, 167, 0, 4, 3]
abbrev dktX2_underSet_2 : List UInt8 := dkwX2_underSet_2 ++ dktX2_underSet_3
def dkwX2_underSet_1 : List UInt8 := [27, 46, 162, 0, 53, 21, 4, 153, 0, 39, 42, 27, 21, 5, 182, 0, 101, 29, 184, 1, 6, 42, 27]
abbrev dktX2_underSet_1 : List UInt8 := dkwX2_underSet_1 ++ dktX2_underSet_2
def dkwX2_underSet_0 : List UInt8 := [3, 61, 3, 62, 29, 42, 180, 0, 142, 162, 0, 91, 4, 54, 4, 3, 54, 5, 21, 5, 42, 180, 0, 17]
abbrev dktX2_underSet_0 : List UInt8 := dkwX2_underSet_0 ++ dktX2_underSet_1
theorem dksX2_underSet_0 : cX2_underSet.data.toList.drop 0 = dktX2_underSet_0 := by decide +kernel
theorem dksX2_underSet_1 : cX2_underSet.data.toList.drop 24 = dktX2_underSet_1 := dk_seg dksX2_underSet_0 24 rfl rfl
theorem dksX2_underSet_2 : cX2_underSet.data.toList.drop 47 = dktX2_underSet_2 := dk_seg dksX2_underSet_1 23 rfl rfl
theorem dksX2_underSet_3 : cX2_underSet.data.toList.drop 71 = dktX2_underSet_3 := dk_seg dksX2_underSet_2 24 rfl rfl
theorem dksX2_underSet_4 : cX2_underSet.data.toList.drop 94 = dktX2_underSet_4 := dk_seg dksX2_underSet_3 23 rfl rfl
theorem dX2_underSet_0 : decode cX2_underSet 0 = .ok (.iconst 0, 1) := dk_3 (dk_at dksX2_underSet_0 0 rfl rfl)
theorem dX2_underSet_1 : decode cX2_underSet 1 = .ok (.istore_n 2, 1) := dk_61 (dk_at dksX2_underSet_0 1 rfl rfl)
theorem dX2_underSet_2 : decode cX2_underSet 2 = .ok (.iconst 0, 1) := dk_3 (dk_at dksX2_underSet_0 2 rfl rfl)
theorem dX2_underSet_3 : decode cX2_underSet 3 = .ok (.istore_n 3, 1) := dk_62 (dk_at dksX2_underSet_0 3 rfl rfl)
theorem dX2_underSet_4 : decode cX2_underSet 4 = .ok (.iload_n 3, 1) := dk_29 (dk_at dksX2_underSet_0 4 rfl rfl)
theorem dX2_underSet_5 : decode cX2_underSet 5 = .ok (.aload_n 0, 1) := dk_42 (dk_at dksX2_underSet_0 5 rfl rfl)
theorem dX2_underSet_6 : decode cX2_underSet 6 = .ok (.getfield 142, 3) := dk_180 0 142 (dk_at dksX2_underSet_0 6 rfl rfl)
theorem dX2_underSet_9 : decode cX2_underSet 9 = .ok (.if_icmp .ge 91, 3) := dk_162 0 91 (dk_at dksX2_underSet_0 9 rfl rfl)
theorem dX2_underSet_12 : decode cX2_underSet 12 = .ok (.iconst 1, 1) := dk_4 (dk_at dksX2_underSet_0 12 rfl rfl)
theorem dX2_underSet_13 : decode cX2_underSet 13 = .ok (.istore 4, 2) := dk_54 4 (dk_at dksX2_underSet_0 13 rfl rfl)
theorem dX2_underSet_15 : decode cX2_underSet 15 = .ok (.iconst 0, 1) := dk_3 (dk_at dksX2_underSet_0 15 rfl rfl)
theorem dX2_underSet_16 : decode cX2_underSet 16 = .ok (.istore 5, 2) := dk_54 5 (dk_at dksX2_underSet_0 16 rfl rfl)
theorem dX2_underSet_18 : decode cX2_underSet 18 = .ok (.iload 5, 2) := dk_21 5 (dk_at dksX2_underSet_0 18 rfl rfl)
theorem dX2_underSet_20 : decode cX2_underSet 20 = .ok (.aload_n 0, 1) := dk_42 (dk_at dksX2_underSet_0 20 rfl rfl)
theorem dX2_underSet_21 : decode cX2_underSet 21 = .ok (.getfield 17, 3) := dk_180 0 17 (dk_at dksX2_underSet_0 21 rfl rfl)
theorem dX2_underSet_24 : decode cX2_underSet 24 = .ok (.iload_n 1, 1) := dk_27 (dk_at dksX2_underSet_1 0 rfl rfl)
theorem dX2_underSet_25 : decode cX2_underSet 25 = .ok (.iaload, 1) := dk_46 (dk_at dksX2_underSet_1 1 rfl rfl)
theorem dX2_underSet_26 : decode cX2_underSet 26 = .ok (.if_icmp .ge 53, 3) := dk_162 0 53 (dk_at dksX2_underSet_1 2 rfl rfl)
theorem dX2_underSet_29 : decode cX2_underSet 29 = .ok (.iload 4, 2) := dk_21 4 (dk_at dksX2_underSet_1 5 rfl rfl)
theorem dX2_underSet_31 : decode cX2_underSet 31 = .ok (.ifCond .eq 39, 3) := dk_153 0 39 (dk_at dksX2_underSet_1 7 rfl rfl)
theorem dX2_underSet_34 : decode cX2_underSet 34 = .ok (.aload_n 0, 1) := dk_42 (dk_at dksX2_underSet_1 10 rfl rfl)
theorem dX2_underSet_35 : decode cX2_underSet 35 = .ok (.iload_n 1, 1) := dk_27 (dk_at dksX2_underSet_1 11 rfl rfl)
theorem dX2_underSet_36 : decode cX2_underSet 36 = .ok (.iload 5, 2) := dk_21 5 (dk_at dksX2_underSet_1 12 rfl rfl)
theorem dX2_underSet_38 : decode cX2_underSet 38 = .ok (.invokevirtual 101, 3) := dk_182 0 101 (dk_at dksX2_underSet_1 14 rfl rfl)
theorem dX2_underSet_41 : decode cX2_underSet 41 = .ok (.iload_n 3, 1) := dk_29 (dk_at dksX2_underSet_1 17 rfl rfl)
theorem dX2_underSet_42 : decode cX2_underSet 42 = .ok (.invokestatic 262, 3) := dk_184 1 6 (dk_at dksX2_underSet_1 18 rfl rfl)
theorem dX2_underSet_45 : decode cX2_underSet 45 = .ok (.aload_n 0, 1) := dk_42 (dk_at dksX2_underSet_1 21 rfl rfl)
theorem dX2_underSet_46 : decode cX2_underSet 46 = .ok (.iload_n 1, 1) := dk_27 (dk_at dksX2_underSet_1 22 rfl rfl)
theorem dX2_underSet_47 : decode cX2_underSet 47 = .ok (.iload 5, 2) := dk_21 5 (dk_at dksX2_underSet_2 0 rfl rfl)
theorem dX2_underSet_49 : decode cX2_underSet 49 = .ok (.iconst 1, 1) := dk_4 (dk_at dksX2_underSet_2 2 rfl rfl)
theorem dX2_underSet_50 : decode cX2_underSet 50 = .ok (.iadd, 1) := dk_96 (dk_at dksX2_underSet_2 3 rfl rfl)
theorem dX2_underSet_51 : decode cX2_underSet 51 = .ok (.invokevirtual 101, 3) := dk_182 0 101 (dk_at dksX2_underSet_2 4 rfl rfl)
theorem dX2_underSet_54 : decode cX2_underSet 54 = .ok (.iconst 1, 1) := dk_4 (dk_at dksX2_underSet_2 7 rfl rfl)
theorem dX2_underSet_55 : decode cX2_underSet 55 = .ok (.if_icmp .ne 7, 3) := dk_160 0 7 (dk_at dksX2_underSet_2 8 rfl rfl)
theorem dX2_underSet_58 : decode cX2_underSet 58 = .ok (.iconst 1, 1) := dk_4 (dk_at dksX2_underSet_2 11 rfl rfl)
theorem dX2_underSet_59 : decode cX2_underSet 59 = .ok (.goto 4, 3) := dk_167 0 4 (dk_at dksX2_underSet_2 12 rfl rfl)
theorem dX2_underSet_62 : decode cX2_underSet 62 = .ok (.iconst 0, 1) := dk_3 (dk_at dksX2_underSet_2 15 rfl rfl)
theorem dX2_underSet_63 : decode cX2_underSet 63 = .ok (.if_icmp .ne 7, 3) := dk_160 0 7 (dk_at dksX2_underSet_2 16 rfl rfl)
theorem dX2_underSet_66 : decode cX2_underSet 66 = .ok (.iconst 1, 1) := dk_4 (dk_at dksX2_underSet_2 19 rfl rfl)
theorem dX2_underSet_67 : decode cX2_underSet 67 = .ok (.goto 4, 3) := dk_167 0 4 (dk_at dksX2_underSet_2 20 rfl rfl)
theorem dX2_underSet_70 : decode cX2_underSet 70 = .ok (.iconst 0, 1) := dk_3 (dk_at dksX2_underSet_2 23 rfl rfl)
theorem dX2_underSet_71 : decode cX2_underSet 71 = .ok (.istore 4, 2) := dk_54 4 (dk_at dksX2_underSet_3 0 rfl rfl)
theorem dX2_underSet_73 : decode cX2_underSet 73 = .ok (.iinc 5 2, 3) := dk_132 5 2 (dk_at dksX2_underSet_3 2 rfl rfl)
theorem dX2_underSet_76 : decode cX2_underSet 76 = .ok (.goto (-58), 3) := dk_167 255 198 (dk_at dksX2_underSet_3 5 rfl rfl)
theorem dX2_underSet_79 : decode cX2_underSet 79 = .ok (.iload_n 2, 1) := dk_28 (dk_at dksX2_underSet_3 8 rfl rfl)
theorem dX2_underSet_80 : decode cX2_underSet 80 = .ok (.iload 4, 2) := dk_21 4 (dk_at dksX2_underSet_3 9 rfl rfl)
theorem dX2_underSet_82 : decode cX2_underSet 82 = .ok (.ifCond .eq 9, 3) := dk_153 0 9 (dk_at dksX2_underSet_3 11 rfl rfl)
theorem dX2_underSet_85 : decode cX2_underSet 85 = .ok (.iconst 1, 1) := dk_4 (dk_at dksX2_underSet_3 14 rfl rfl)
theorem dX2_underSet_86 : decode cX2_underSet 86 = .ok (.iload_n 3, 1) := dk_29 (dk_at dksX2_underSet_3 15 rfl rfl)
theorem dX2_underSet_87 : decode cX2_underSet 87 = .ok (.ishl, 1) := dk_120 (dk_at dksX2_underSet_3 16 rfl rfl)
theorem dX2_underSet_88 : decode cX2_underSet 88 = .ok (.goto 4, 3) := dk_167 0 4 (dk_at dksX2_underSet_3 17 rfl rfl)
theorem dX2_underSet_91 : decode cX2_underSet 91 = .ok (.iconst 0, 1) := dk_3 (dk_at dksX2_underSet_3 20 rfl rfl)
theorem dX2_underSet_92 : decode cX2_underSet 92 = .ok (.ior, 1) := dk_128 (dk_at dksX2_underSet_3 21 rfl rfl)
theorem dX2_underSet_93 : decode cX2_underSet 93 = .ok (.istore_n 2, 1) := dk_61 (dk_at dksX2_underSet_3 22 rfl rfl)
theorem dX2_underSet_94 : decode cX2_underSet 94 = .ok (.iinc 3 1, 3) := dk_132 3 1 (dk_at dksX2_underSet_4 0 rfl rfl)
theorem dX2_underSet_97 : decode cX2_underSet 97 = .ok (.goto (-93), 3) := dk_167 255 163 (dk_at dksX2_underSet_4 3 rfl rfl)
theorem dX2_underSet_100 : decode cX2_underSet 100 = .ok (.iload_n 2, 1) := dk_28 (dk_at dksX2_underSet_4 6 rfl rfl)
theorem dX2_underSet_101 : decode cX2_underSet 101 = .ok (.ireturn, 1) := dk_172 (dk_at dksX2_underSet_4 7 rfl rfl)
abbrev cX2_sings : ByteArray := prog_11_method_83_code
def yX2_sings : MethodName := ⟨RX2, "sings", "(II)Z"⟩
def dkwX2_sings_0 : List UInt8 := [26, 27, 100, 2, 4, 184, 0, 83, 172]
abbrev dktX2_sings_0 : List UInt8 := dkwX2_sings_0 ++ []
theorem dksX2_sings_0 : cX2_sings.data.toList.drop 0 = dktX2_sings_0 := by decide +kernel
theorem dX2_sings_0 : decode cX2_sings 0 = .ok (.iload_n 0, 1) := dk_26 (dk_at dksX2_sings_0 0 rfl rfl)
theorem dX2_sings_1 : decode cX2_sings 1 = .ok (.iload_n 1, 1) := dk_27 (dk_at dksX2_sings_0 1 rfl rfl)
theorem dX2_sings_2 : decode cX2_sings 2 = .ok (.isub, 1) := dk_100 (dk_at dksX2_sings_0 2 rfl rfl)
theorem dX2_sings_3 : decode cX2_sings 3 = .ok (.iconst (-1), 1) := dk_2 (dk_at dksX2_sings_0 3 rfl rfl)
theorem dX2_sings_4 : decode cX2_sings 4 = .ok (.iconst 1, 1) := dk_4 (dk_at dksX2_sings_0 4 rfl rfl)
theorem dX2_sings_5 : decode cX2_sings 5 = .ok (.invokestatic 83, 3) := dk_184 0 83 (dk_at dksX2_sings_0 5 rfl rfl)
theorem dX2_sings_8 : decode cX2_sings 8 = .ok (.ireturn, 1) := dk_172 (dk_at dksX2_sings_0 8 rfl rfl)
abbrev cX2_strike : ByteArray := prog_11_method_86_code
def yX2_strike : MethodName := ⟨RX2, "strike", "(I)I"⟩
def dkwX2_strike_6 : List UInt8 := [167, 255, 158, 42, 21, 5, 21, 4, 182, 0, 105, 172]
abbrev dktX2_strike_6 : List UInt8 := dkwX2_strike_6 ++ []
def dkwX2_strike_5 : List UInt8 := [16, 247, 159, 0, 10, 21, 8, 21, 5, 162, 0, 11, 21, 6, 54, 4, 21, 8, 54, 5, 132, 6, 1]
abbrev dktX2_strike_5 : List UInt8 := dkwX2_strike_5 ++ dktX2_strike_6
def dkwX2_strike_4 : List UInt8 := [54, 7, 132, 8, 1, 167, 255, 215, 21, 7, 29, 184, 0, 186, 21, 7, 100, 184, 0, 180, 54, 8, 21, 4]
abbrev dktX2_strike_4 : List UInt8 := dkwX2_strike_4 ++ dktX2_strike_5
def dkwX2_strike_3 : List UInt8 := [21, 8, 184, 0, 232, 153, 0, 17, 21, 6, 21, 8, 184, 1, 6, 153, 0, 7, 4, 167, 0, 4, 3, 96]
abbrev dktX2_strike_3 : List UInt8 := dkwX2_strike_3 ++ dktX2_strike_4
def dkwX2_strike_2 : List UInt8 := [180, 0, 142, 162, 0, 95, 3, 54, 7, 3, 54, 8, 21, 8, 42, 180, 0, 142, 162, 0, 38, 21, 7, 29]
abbrev dktX2_strike_2 : List UInt8 := dkwX2_strike_2 ++ dktX2_strike_3
def dkwX2_strike_1 : List UInt8 := [182, 1, 12, 62, 29, 154, 0, 6, 16, 247, 172, 16, 247, 54, 4, 3, 54, 5, 3, 54, 6, 21, 6, 42]
abbrev dktX2_strike_1 : List UInt8 := dkwX2_strike_1 ++ dktX2_strike_2
def dkwX2_strike_0 : List UInt8 := [27, 184, 0, 93, 154, 0, 5, 2, 172, 42, 27, 182, 1, 9, 61, 28, 156, 0, 5, 28, 172, 42, 27]
abbrev dktX2_strike_0 : List UInt8 := dkwX2_strike_0 ++ dktX2_strike_1
theorem dksX2_strike_0 : cX2_strike.data.toList.drop 0 = dktX2_strike_0 := by decide +kernel
theorem dksX2_strike_1 : cX2_strike.data.toList.drop 23 = dktX2_strike_1 := dk_seg dksX2_strike_0 23 rfl rfl
theorem dksX2_strike_2 : cX2_strike.data.toList.drop 47 = dktX2_strike_2 := dk_seg dksX2_strike_1 24 rfl rfl
theorem dksX2_strike_3 : cX2_strike.data.toList.drop 71 = dktX2_strike_3 := dk_seg dksX2_strike_2 24 rfl rfl
theorem dksX2_strike_4 : cX2_strike.data.toList.drop 95 = dktX2_strike_4 := dk_seg dksX2_strike_3 24 rfl rfl
theorem dksX2_strike_5 : cX2_strike.data.toList.drop 119 = dktX2_strike_5 := dk_seg dksX2_strike_4 24 rfl rfl
theorem dksX2_strike_6 : cX2_strike.data.toList.drop 142 = dktX2_strike_6 := dk_seg dksX2_strike_5 23 rfl rfl
theorem dX2_strike_0 : decode cX2_strike 0 = .ok (.iload_n 1, 1) := dk_27 (dk_at dksX2_strike_0 0 rfl rfl)
theorem dX2_strike_1 : decode cX2_strike 1 = .ok (.invokestatic 93, 3) := dk_184 0 93 (dk_at dksX2_strike_0 1 rfl rfl)
theorem dX2_strike_4 : decode cX2_strike 4 = .ok (.ifCond .ne 5, 3) := dk_154 0 5 (dk_at dksX2_strike_0 4 rfl rfl)
theorem dX2_strike_7 : decode cX2_strike 7 = .ok (.iconst (-1), 1) := dk_2 (dk_at dksX2_strike_0 7 rfl rfl)
theorem dX2_strike_8 : decode cX2_strike 8 = .ok (.ireturn, 1) := dk_172 (dk_at dksX2_strike_0 8 rfl rfl)
theorem dX2_strike_9 : decode cX2_strike 9 = .ok (.aload_n 0, 1) := dk_42 (dk_at dksX2_strike_0 9 rfl rfl)
theorem dX2_strike_10 : decode cX2_strike 10 = .ok (.iload_n 1, 1) := dk_27 (dk_at dksX2_strike_0 10 rfl rfl)
theorem dX2_strike_11 : decode cX2_strike 11 = .ok (.invokevirtual 265, 3) := dk_182 1 9 (dk_at dksX2_strike_0 11 rfl rfl)
theorem dX2_strike_14 : decode cX2_strike 14 = .ok (.istore_n 2, 1) := dk_61 (dk_at dksX2_strike_0 14 rfl rfl)
theorem dX2_strike_15 : decode cX2_strike 15 = .ok (.iload_n 2, 1) := dk_28 (dk_at dksX2_strike_0 15 rfl rfl)
theorem dX2_strike_16 : decode cX2_strike 16 = .ok (.ifCond .ge 5, 3) := dk_156 0 5 (dk_at dksX2_strike_0 16 rfl rfl)
theorem dX2_strike_19 : decode cX2_strike 19 = .ok (.iload_n 2, 1) := dk_28 (dk_at dksX2_strike_0 19 rfl rfl)
theorem dX2_strike_20 : decode cX2_strike 20 = .ok (.ireturn, 1) := dk_172 (dk_at dksX2_strike_0 20 rfl rfl)
theorem dX2_strike_21 : decode cX2_strike 21 = .ok (.aload_n 0, 1) := dk_42 (dk_at dksX2_strike_0 21 rfl rfl)
theorem dX2_strike_22 : decode cX2_strike 22 = .ok (.iload_n 1, 1) := dk_27 (dk_at dksX2_strike_0 22 rfl rfl)
theorem dX2_strike_23 : decode cX2_strike 23 = .ok (.invokevirtual 268, 3) := dk_182 1 12 (dk_at dksX2_strike_1 0 rfl rfl)
theorem dX2_strike_26 : decode cX2_strike 26 = .ok (.istore_n 3, 1) := dk_62 (dk_at dksX2_strike_1 3 rfl rfl)
theorem dX2_strike_27 : decode cX2_strike 27 = .ok (.iload_n 3, 1) := dk_29 (dk_at dksX2_strike_1 4 rfl rfl)
theorem dX2_strike_28 : decode cX2_strike 28 = .ok (.ifCond .ne 6, 3) := dk_154 0 6 (dk_at dksX2_strike_1 5 rfl rfl)
theorem dX2_strike_31 : decode cX2_strike 31 = .ok (.bipush (-9), 2) := dk_16 247 (dk_at dksX2_strike_1 8 rfl rfl)
theorem dX2_strike_33 : decode cX2_strike 33 = .ok (.ireturn, 1) := dk_172 (dk_at dksX2_strike_1 10 rfl rfl)
theorem dX2_strike_34 : decode cX2_strike 34 = .ok (.bipush (-9), 2) := dk_16 247 (dk_at dksX2_strike_1 11 rfl rfl)
theorem dX2_strike_36 : decode cX2_strike 36 = .ok (.istore 4, 2) := dk_54 4 (dk_at dksX2_strike_1 13 rfl rfl)
theorem dX2_strike_38 : decode cX2_strike 38 = .ok (.iconst 0, 1) := dk_3 (dk_at dksX2_strike_1 15 rfl rfl)
theorem dX2_strike_39 : decode cX2_strike 39 = .ok (.istore 5, 2) := dk_54 5 (dk_at dksX2_strike_1 16 rfl rfl)
theorem dX2_strike_41 : decode cX2_strike 41 = .ok (.iconst 0, 1) := dk_3 (dk_at dksX2_strike_1 18 rfl rfl)
theorem dX2_strike_42 : decode cX2_strike 42 = .ok (.istore 6, 2) := dk_54 6 (dk_at dksX2_strike_1 19 rfl rfl)
theorem dX2_strike_44 : decode cX2_strike 44 = .ok (.iload 6, 2) := dk_21 6 (dk_at dksX2_strike_1 21 rfl rfl)
theorem dX2_strike_46 : decode cX2_strike 46 = .ok (.aload_n 0, 1) := dk_42 (dk_at dksX2_strike_1 23 rfl rfl)
theorem dX2_strike_47 : decode cX2_strike 47 = .ok (.getfield 142, 3) := dk_180 0 142 (dk_at dksX2_strike_2 0 rfl rfl)
theorem dX2_strike_50 : decode cX2_strike 50 = .ok (.if_icmp .ge 95, 3) := dk_162 0 95 (dk_at dksX2_strike_2 3 rfl rfl)
theorem dX2_strike_53 : decode cX2_strike 53 = .ok (.iconst 0, 1) := dk_3 (dk_at dksX2_strike_2 6 rfl rfl)
theorem dX2_strike_54 : decode cX2_strike 54 = .ok (.istore 7, 2) := dk_54 7 (dk_at dksX2_strike_2 7 rfl rfl)
theorem dX2_strike_56 : decode cX2_strike 56 = .ok (.iconst 0, 1) := dk_3 (dk_at dksX2_strike_2 9 rfl rfl)
theorem dX2_strike_57 : decode cX2_strike 57 = .ok (.istore 8, 2) := dk_54 8 (dk_at dksX2_strike_2 10 rfl rfl)
theorem dX2_strike_59 : decode cX2_strike 59 = .ok (.iload 8, 2) := dk_21 8 (dk_at dksX2_strike_2 12 rfl rfl)
theorem dX2_strike_61 : decode cX2_strike 61 = .ok (.aload_n 0, 1) := dk_42 (dk_at dksX2_strike_2 14 rfl rfl)
theorem dX2_strike_62 : decode cX2_strike 62 = .ok (.getfield 142, 3) := dk_180 0 142 (dk_at dksX2_strike_2 15 rfl rfl)
theorem dX2_strike_65 : decode cX2_strike 65 = .ok (.if_icmp .ge 38, 3) := dk_162 0 38 (dk_at dksX2_strike_2 18 rfl rfl)
theorem dX2_strike_68 : decode cX2_strike 68 = .ok (.iload 7, 2) := dk_21 7 (dk_at dksX2_strike_2 21 rfl rfl)
theorem dX2_strike_70 : decode cX2_strike 70 = .ok (.iload_n 3, 1) := dk_29 (dk_at dksX2_strike_2 23 rfl rfl)
theorem dX2_strike_71 : decode cX2_strike 71 = .ok (.iload 8, 2) := dk_21 8 (dk_at dksX2_strike_3 0 rfl rfl)
theorem dX2_strike_73 : decode cX2_strike 73 = .ok (.invokestatic 232, 3) := dk_184 0 232 (dk_at dksX2_strike_3 2 rfl rfl)
theorem dX2_strike_76 : decode cX2_strike 76 = .ok (.ifCond .eq 17, 3) := dk_153 0 17 (dk_at dksX2_strike_3 5 rfl rfl)
theorem dX2_strike_79 : decode cX2_strike 79 = .ok (.iload 6, 2) := dk_21 6 (dk_at dksX2_strike_3 8 rfl rfl)
theorem dX2_strike_81 : decode cX2_strike 81 = .ok (.iload 8, 2) := dk_21 8 (dk_at dksX2_strike_3 10 rfl rfl)
theorem dX2_strike_83 : decode cX2_strike 83 = .ok (.invokestatic 262, 3) := dk_184 1 6 (dk_at dksX2_strike_3 12 rfl rfl)
theorem dX2_strike_86 : decode cX2_strike 86 = .ok (.ifCond .eq 7, 3) := dk_153 0 7 (dk_at dksX2_strike_3 15 rfl rfl)
theorem dX2_strike_89 : decode cX2_strike 89 = .ok (.iconst 1, 1) := dk_4 (dk_at dksX2_strike_3 18 rfl rfl)
theorem dX2_strike_90 : decode cX2_strike 90 = .ok (.goto 4, 3) := dk_167 0 4 (dk_at dksX2_strike_3 19 rfl rfl)
theorem dX2_strike_93 : decode cX2_strike 93 = .ok (.iconst 0, 1) := dk_3 (dk_at dksX2_strike_3 22 rfl rfl)
theorem dX2_strike_94 : decode cX2_strike 94 = .ok (.iadd, 1) := dk_96 (dk_at dksX2_strike_3 23 rfl rfl)
theorem dX2_strike_95 : decode cX2_strike 95 = .ok (.istore 7, 2) := dk_54 7 (dk_at dksX2_strike_4 0 rfl rfl)
theorem dX2_strike_97 : decode cX2_strike 97 = .ok (.iinc 8 1, 3) := dk_132 8 1 (dk_at dksX2_strike_4 2 rfl rfl)
theorem dX2_strike_100 : decode cX2_strike 100 = .ok (.goto (-41), 3) := dk_167 255 215 (dk_at dksX2_strike_4 5 rfl rfl)
theorem dX2_strike_103 : decode cX2_strike 103 = .ok (.iload 7, 2) := dk_21 7 (dk_at dksX2_strike_4 8 rfl rfl)
theorem dX2_strike_105 : decode cX2_strike 105 = .ok (.iload_n 3, 1) := dk_29 (dk_at dksX2_strike_4 10 rfl rfl)
theorem dX2_strike_106 : decode cX2_strike 106 = .ok (.invokestatic 186, 3) := dk_184 0 186 (dk_at dksX2_strike_4 11 rfl rfl)
theorem dX2_strike_109 : decode cX2_strike 109 = .ok (.iload 7, 2) := dk_21 7 (dk_at dksX2_strike_4 14 rfl rfl)
theorem dX2_strike_111 : decode cX2_strike 111 = .ok (.isub, 1) := dk_100 (dk_at dksX2_strike_4 16 rfl rfl)
theorem dX2_strike_112 : decode cX2_strike 112 = .ok (.invokestatic 180, 3) := dk_184 0 180 (dk_at dksX2_strike_4 17 rfl rfl)
theorem dX2_strike_115 : decode cX2_strike 115 = .ok (.istore 8, 2) := dk_54 8 (dk_at dksX2_strike_4 20 rfl rfl)
theorem dX2_strike_117 : decode cX2_strike 117 = .ok (.iload 4, 2) := dk_21 4 (dk_at dksX2_strike_4 22 rfl rfl)
theorem dX2_strike_119 : decode cX2_strike 119 = .ok (.bipush (-9), 2) := dk_16 247 (dk_at dksX2_strike_5 0 rfl rfl)
theorem dX2_strike_121 : decode cX2_strike 121 = .ok (.if_icmp .eq 10, 3) := dk_159 0 10 (dk_at dksX2_strike_5 2 rfl rfl)
theorem dX2_strike_124 : decode cX2_strike 124 = .ok (.iload 8, 2) := dk_21 8 (dk_at dksX2_strike_5 5 rfl rfl)
theorem dX2_strike_126 : decode cX2_strike 126 = .ok (.iload 5, 2) := dk_21 5 (dk_at dksX2_strike_5 7 rfl rfl)
theorem dX2_strike_128 : decode cX2_strike 128 = .ok (.if_icmp .ge 11, 3) := dk_162 0 11 (dk_at dksX2_strike_5 9 rfl rfl)
theorem dX2_strike_131 : decode cX2_strike 131 = .ok (.iload 6, 2) := dk_21 6 (dk_at dksX2_strike_5 12 rfl rfl)
theorem dX2_strike_133 : decode cX2_strike 133 = .ok (.istore 4, 2) := dk_54 4 (dk_at dksX2_strike_5 14 rfl rfl)
theorem dX2_strike_135 : decode cX2_strike 135 = .ok (.iload 8, 2) := dk_21 8 (dk_at dksX2_strike_5 16 rfl rfl)
theorem dX2_strike_137 : decode cX2_strike 137 = .ok (.istore 5, 2) := dk_54 5 (dk_at dksX2_strike_5 18 rfl rfl)
theorem dX2_strike_139 : decode cX2_strike 139 = .ok (.iinc 6 1, 3) := dk_132 6 1 (dk_at dksX2_strike_5 20 rfl rfl)
theorem dX2_strike_142 : decode cX2_strike 142 = .ok (.goto (-98), 3) := dk_167 255 158 (dk_at dksX2_strike_6 0 rfl rfl)
theorem dX2_strike_145 : decode cX2_strike 145 = .ok (.aload_n 0, 1) := dk_42 (dk_at dksX2_strike_6 3 rfl rfl)
theorem dX2_strike_146 : decode cX2_strike 146 = .ok (.iload 5, 2) := dk_21 5 (dk_at dksX2_strike_6 4 rfl rfl)
theorem dX2_strike_148 : decode cX2_strike 148 = .ok (.iload 4, 2) := dk_21 4 (dk_at dksX2_strike_6 6 rfl rfl)
theorem dX2_strike_150 : decode cX2_strike 150 = .ok (.invokevirtual 105, 3) := dk_182 0 105 (dk_at dksX2_strike_6 8 rfl rfl)
theorem dX2_strike_153 : decode cX2_strike 153 = .ok (.ireturn, 1) := dk_172 (dk_at dksX2_strike_6 11 rfl rfl)
abbrev cX2_tune : ByteArray := prog_11_method_87_code
def yX2_tune : MethodName := ⟨RX2, "tune", "(I)I"⟩
def dkwX2_tune_4 : List UInt8 := [42, 10, 33, 182, 1, 15, 172]
abbrev dktX2_tune_4 : List UInt8 := dkwX2_tune_4 ++ []
def dkwX2_tune_3 : List UInt8 := [184, 0, 186, 133, 105, 66, 42, 4, 42, 27, 21, 5, 182, 0, 101, 182, 0, 192, 132, 5, 1, 167, 255, 196]
abbrev dktX2_tune_3 : List UInt8 := dkwX2_tune_3 ++ dktX2_tune_4
def dkwX2_tune_2 : List UInt8 := [21, 5, 182, 0, 101, 182, 0, 155, 154, 0, 10, 42, 9, 10, 182, 1, 15, 172, 33, 42, 4, 182, 0, 183]
abbrev dktX2_tune_2 : List UInt8 := dkwX2_tune_2 ++ dktX2_tune_3
def dkwX2_tune_1 : List UInt8 := [182, 0, 212, 10, 66, 3, 54, 5, 21, 5, 42, 180, 0, 17, 27, 46, 162, 0, 55, 42, 4, 42, 27]
abbrev dktX2_tune_1 : List UInt8 := dkwX2_tune_1 ++ dktX2_tune_2
def dkwX2_tune_0 : List UInt8 := [27, 184, 0, 93, 154, 0, 5, 2, 172, 42, 27, 182, 0, 209, 61, 28, 156, 0, 5, 28, 172, 42, 3, 4]
abbrev dktX2_tune_0 : List UInt8 := dkwX2_tune_0 ++ dktX2_tune_1
theorem dksX2_tune_0 : cX2_tune.data.toList.drop 0 = dktX2_tune_0 := by decide +kernel
theorem dksX2_tune_1 : cX2_tune.data.toList.drop 24 = dktX2_tune_1 := dk_seg dksX2_tune_0 24 rfl rfl
theorem dksX2_tune_2 : cX2_tune.data.toList.drop 47 = dktX2_tune_2 := dk_seg dksX2_tune_1 23 rfl rfl
theorem dksX2_tune_3 : cX2_tune.data.toList.drop 71 = dktX2_tune_3 := dk_seg dksX2_tune_2 24 rfl rfl
theorem dksX2_tune_4 : cX2_tune.data.toList.drop 95 = dktX2_tune_4 := dk_seg dksX2_tune_3 24 rfl rfl
theorem dX2_tune_0 : decode cX2_tune 0 = .ok (.iload_n 1, 1) := dk_27 (dk_at dksX2_tune_0 0 rfl rfl)
theorem dX2_tune_1 : decode cX2_tune 1 = .ok (.invokestatic 93, 3) := dk_184 0 93 (dk_at dksX2_tune_0 1 rfl rfl)
theorem dX2_tune_4 : decode cX2_tune 4 = .ok (.ifCond .ne 5, 3) := dk_154 0 5 (dk_at dksX2_tune_0 4 rfl rfl)
theorem dX2_tune_7 : decode cX2_tune 7 = .ok (.iconst (-1), 1) := dk_2 (dk_at dksX2_tune_0 7 rfl rfl)
theorem dX2_tune_8 : decode cX2_tune 8 = .ok (.ireturn, 1) := dk_172 (dk_at dksX2_tune_0 8 rfl rfl)
theorem dX2_tune_9 : decode cX2_tune 9 = .ok (.aload_n 0, 1) := dk_42 (dk_at dksX2_tune_0 9 rfl rfl)
theorem dX2_tune_10 : decode cX2_tune 10 = .ok (.iload_n 1, 1) := dk_27 (dk_at dksX2_tune_0 10 rfl rfl)
theorem dX2_tune_11 : decode cX2_tune 11 = .ok (.invokevirtual 209, 3) := dk_182 0 209 (dk_at dksX2_tune_0 11 rfl rfl)
theorem dX2_tune_14 : decode cX2_tune 14 = .ok (.istore_n 2, 1) := dk_61 (dk_at dksX2_tune_0 14 rfl rfl)
theorem dX2_tune_15 : decode cX2_tune 15 = .ok (.iload_n 2, 1) := dk_28 (dk_at dksX2_tune_0 15 rfl rfl)
theorem dX2_tune_16 : decode cX2_tune 16 = .ok (.ifCond .ge 5, 3) := dk_156 0 5 (dk_at dksX2_tune_0 16 rfl rfl)
theorem dX2_tune_19 : decode cX2_tune 19 = .ok (.iload_n 2, 1) := dk_28 (dk_at dksX2_tune_0 19 rfl rfl)
theorem dX2_tune_20 : decode cX2_tune 20 = .ok (.ireturn, 1) := dk_172 (dk_at dksX2_tune_0 20 rfl rfl)
theorem dX2_tune_21 : decode cX2_tune 21 = .ok (.aload_n 0, 1) := dk_42 (dk_at dksX2_tune_0 21 rfl rfl)
theorem dX2_tune_22 : decode cX2_tune 22 = .ok (.iconst 0, 1) := dk_3 (dk_at dksX2_tune_0 22 rfl rfl)
theorem dX2_tune_23 : decode cX2_tune 23 = .ok (.iconst 1, 1) := dk_4 (dk_at dksX2_tune_0 23 rfl rfl)
theorem dX2_tune_24 : decode cX2_tune 24 = .ok (.invokevirtual 212, 3) := dk_182 0 212 (dk_at dksX2_tune_1 0 rfl rfl)
theorem dX2_tune_27 : decode cX2_tune 27 = .ok (.lconst 1, 1) := dk_10 (dk_at dksX2_tune_1 3 rfl rfl)
theorem dX2_tune_28 : decode cX2_tune 28 = .ok (.lstore_n 3, 1) := dk_66 (dk_at dksX2_tune_1 4 rfl rfl)
theorem dX2_tune_29 : decode cX2_tune 29 = .ok (.iconst 0, 1) := dk_3 (dk_at dksX2_tune_1 5 rfl rfl)
theorem dX2_tune_30 : decode cX2_tune 30 = .ok (.istore 5, 2) := dk_54 5 (dk_at dksX2_tune_1 6 rfl rfl)
theorem dX2_tune_32 : decode cX2_tune 32 = .ok (.iload 5, 2) := dk_21 5 (dk_at dksX2_tune_1 8 rfl rfl)
theorem dX2_tune_34 : decode cX2_tune 34 = .ok (.aload_n 0, 1) := dk_42 (dk_at dksX2_tune_1 10 rfl rfl)
theorem dX2_tune_35 : decode cX2_tune 35 = .ok (.getfield 17, 3) := dk_180 0 17 (dk_at dksX2_tune_1 11 rfl rfl)
theorem dX2_tune_38 : decode cX2_tune 38 = .ok (.iload_n 1, 1) := dk_27 (dk_at dksX2_tune_1 14 rfl rfl)
theorem dX2_tune_39 : decode cX2_tune 39 = .ok (.iaload, 1) := dk_46 (dk_at dksX2_tune_1 15 rfl rfl)
theorem dX2_tune_40 : decode cX2_tune 40 = .ok (.if_icmp .ge 55, 3) := dk_162 0 55 (dk_at dksX2_tune_1 16 rfl rfl)
theorem dX2_tune_43 : decode cX2_tune 43 = .ok (.aload_n 0, 1) := dk_42 (dk_at dksX2_tune_1 19 rfl rfl)
theorem dX2_tune_44 : decode cX2_tune 44 = .ok (.iconst 1, 1) := dk_4 (dk_at dksX2_tune_1 20 rfl rfl)
theorem dX2_tune_45 : decode cX2_tune 45 = .ok (.aload_n 0, 1) := dk_42 (dk_at dksX2_tune_1 21 rfl rfl)
theorem dX2_tune_46 : decode cX2_tune 46 = .ok (.iload_n 1, 1) := dk_27 (dk_at dksX2_tune_1 22 rfl rfl)
theorem dX2_tune_47 : decode cX2_tune 47 = .ok (.iload 5, 2) := dk_21 5 (dk_at dksX2_tune_2 0 rfl rfl)
theorem dX2_tune_49 : decode cX2_tune 49 = .ok (.invokevirtual 101, 3) := dk_182 0 101 (dk_at dksX2_tune_2 2 rfl rfl)
theorem dX2_tune_52 : decode cX2_tune 52 = .ok (.invokevirtual 155, 3) := dk_182 0 155 (dk_at dksX2_tune_2 5 rfl rfl)
theorem dX2_tune_55 : decode cX2_tune 55 = .ok (.ifCond .ne 10, 3) := dk_154 0 10 (dk_at dksX2_tune_2 8 rfl rfl)
theorem dX2_tune_58 : decode cX2_tune 58 = .ok (.aload_n 0, 1) := dk_42 (dk_at dksX2_tune_2 11 rfl rfl)
theorem dX2_tune_59 : decode cX2_tune 59 = .ok (.lconst 0, 1) := dk_9 (dk_at dksX2_tune_2 12 rfl rfl)
theorem dX2_tune_60 : decode cX2_tune 60 = .ok (.lconst 1, 1) := dk_10 (dk_at dksX2_tune_2 13 rfl rfl)
theorem dX2_tune_61 : decode cX2_tune 61 = .ok (.invokevirtual 271, 3) := dk_182 1 15 (dk_at dksX2_tune_2 14 rfl rfl)
theorem dX2_tune_64 : decode cX2_tune 64 = .ok (.ireturn, 1) := dk_172 (dk_at dksX2_tune_2 17 rfl rfl)
theorem dX2_tune_65 : decode cX2_tune 65 = .ok (.lload_n 3, 1) := dk_33 (dk_at dksX2_tune_2 18 rfl rfl)
theorem dX2_tune_66 : decode cX2_tune 66 = .ok (.aload_n 0, 1) := dk_42 (dk_at dksX2_tune_2 19 rfl rfl)
theorem dX2_tune_67 : decode cX2_tune 67 = .ok (.iconst 1, 1) := dk_4 (dk_at dksX2_tune_2 20 rfl rfl)
theorem dX2_tune_68 : decode cX2_tune 68 = .ok (.invokevirtual 183, 3) := dk_182 0 183 (dk_at dksX2_tune_2 21 rfl rfl)
theorem dX2_tune_71 : decode cX2_tune 71 = .ok (.invokestatic 186, 3) := dk_184 0 186 (dk_at dksX2_tune_3 0 rfl rfl)
theorem dX2_tune_74 : decode cX2_tune 74 = .ok (.i2l, 1) := dk_133 (dk_at dksX2_tune_3 3 rfl rfl)
theorem dX2_tune_75 : decode cX2_tune 75 = .ok (.lmul, 1) := dk_105 (dk_at dksX2_tune_3 4 rfl rfl)
theorem dX2_tune_76 : decode cX2_tune 76 = .ok (.lstore_n 3, 1) := dk_66 (dk_at dksX2_tune_3 5 rfl rfl)
theorem dX2_tune_77 : decode cX2_tune 77 = .ok (.aload_n 0, 1) := dk_42 (dk_at dksX2_tune_3 6 rfl rfl)
theorem dX2_tune_78 : decode cX2_tune 78 = .ok (.iconst 1, 1) := dk_4 (dk_at dksX2_tune_3 7 rfl rfl)
theorem dX2_tune_79 : decode cX2_tune 79 = .ok (.aload_n 0, 1) := dk_42 (dk_at dksX2_tune_3 8 rfl rfl)
theorem dX2_tune_80 : decode cX2_tune 80 = .ok (.iload_n 1, 1) := dk_27 (dk_at dksX2_tune_3 9 rfl rfl)
theorem dX2_tune_81 : decode cX2_tune 81 = .ok (.iload 5, 2) := dk_21 5 (dk_at dksX2_tune_3 10 rfl rfl)
theorem dX2_tune_83 : decode cX2_tune 83 = .ok (.invokevirtual 101, 3) := dk_182 0 101 (dk_at dksX2_tune_3 12 rfl rfl)
theorem dX2_tune_86 : decode cX2_tune 86 = .ok (.invokevirtual 192, 3) := dk_182 0 192 (dk_at dksX2_tune_3 15 rfl rfl)
theorem dX2_tune_89 : decode cX2_tune 89 = .ok (.iinc 5 1, 3) := dk_132 5 1 (dk_at dksX2_tune_3 18 rfl rfl)
theorem dX2_tune_92 : decode cX2_tune 92 = .ok (.goto (-60), 3) := dk_167 255 196 (dk_at dksX2_tune_3 21 rfl rfl)
theorem dX2_tune_95 : decode cX2_tune 95 = .ok (.aload_n 0, 1) := dk_42 (dk_at dksX2_tune_4 0 rfl rfl)
theorem dX2_tune_96 : decode cX2_tune 96 = .ok (.lconst 1, 1) := dk_10 (dk_at dksX2_tune_4 1 rfl rfl)
theorem dX2_tune_97 : decode cX2_tune 97 = .ok (.lload_n 3, 1) := dk_33 (dk_at dksX2_tune_4 2 rfl rfl)
theorem dX2_tune_98 : decode cX2_tune 98 = .ok (.invokevirtual 271, 3) := dk_182 1 15 (dk_at dksX2_tune_4 3 rfl rfl)
theorem dX2_tune_101 : decode cX2_tune 101 = .ok (.ireturn, 1) := dk_172 (dk_at dksX2_tune_4 6 rfl rfl)
abbrev cX2_part : ByteArray := prog_11_method_12_code
def yX2_part : MethodName := ⟨RX2, "part", "(JJ)I"⟩
def dkwX2_part_2 : List UInt8 := [172]
abbrev dktX2_part_2 : List UInt8 := dkwX2_part_2 ++ []
def dkwX2_part_1 : List UInt8 := [22, 9, 55, 7, 167, 255, 234, 42, 31, 22, 5, 109, 181, 0, 90, 42, 33, 22, 5, 109, 181, 0, 13, 4]
abbrev dktX2_part_1 : List UInt8 := dkwX2_part_1 ++ dktX2_part_2
def dkwX2_part_0 : List UInt8 := [31, 55, 5, 33, 55, 7, 22, 7, 9, 148, 153, 0, 21, 22, 5, 22, 7, 113, 55, 9, 22, 7, 55, 5]
abbrev dktX2_part_0 : List UInt8 := dkwX2_part_0 ++ dktX2_part_1
theorem dksX2_part_0 : cX2_part.data.toList.drop 0 = dktX2_part_0 := by decide +kernel
theorem dksX2_part_1 : cX2_part.data.toList.drop 24 = dktX2_part_1 := dk_seg dksX2_part_0 24 rfl rfl
theorem dksX2_part_2 : cX2_part.data.toList.drop 48 = dktX2_part_2 := dk_seg dksX2_part_1 24 rfl rfl
theorem dX2_part_0 : decode cX2_part 0 = .ok (.lload_n 1, 1) := dk_31 (dk_at dksX2_part_0 0 rfl rfl)
theorem dX2_part_1 : decode cX2_part 1 = .ok (.lstore 5, 2) := dk_55 5 (dk_at dksX2_part_0 1 rfl rfl)
theorem dX2_part_3 : decode cX2_part 3 = .ok (.lload_n 3, 1) := dk_33 (dk_at dksX2_part_0 3 rfl rfl)
theorem dX2_part_4 : decode cX2_part 4 = .ok (.lstore 7, 2) := dk_55 7 (dk_at dksX2_part_0 4 rfl rfl)
theorem dX2_part_6 : decode cX2_part 6 = .ok (.lload 7, 2) := dk_22 7 (dk_at dksX2_part_0 6 rfl rfl)
theorem dX2_part_8 : decode cX2_part 8 = .ok (.lconst 0, 1) := dk_9 (dk_at dksX2_part_0 8 rfl rfl)
theorem dX2_part_9 : decode cX2_part 9 = .ok (.lcmp, 1) := dk_148 (dk_at dksX2_part_0 9 rfl rfl)
theorem dX2_part_10 : decode cX2_part 10 = .ok (.ifCond .eq 21, 3) := dk_153 0 21 (dk_at dksX2_part_0 10 rfl rfl)
theorem dX2_part_13 : decode cX2_part 13 = .ok (.lload 5, 2) := dk_22 5 (dk_at dksX2_part_0 13 rfl rfl)
theorem dX2_part_15 : decode cX2_part 15 = .ok (.lload 7, 2) := dk_22 7 (dk_at dksX2_part_0 15 rfl rfl)
theorem dX2_part_17 : decode cX2_part 17 = .ok (.lrem, 1) := dk_113 (dk_at dksX2_part_0 17 rfl rfl)
theorem dX2_part_18 : decode cX2_part 18 = .ok (.lstore 9, 2) := dk_55 9 (dk_at dksX2_part_0 18 rfl rfl)
theorem dX2_part_20 : decode cX2_part 20 = .ok (.lload 7, 2) := dk_22 7 (dk_at dksX2_part_0 20 rfl rfl)
theorem dX2_part_22 : decode cX2_part 22 = .ok (.lstore 5, 2) := dk_55 5 (dk_at dksX2_part_0 22 rfl rfl)
theorem dX2_part_24 : decode cX2_part 24 = .ok (.lload 9, 2) := dk_22 9 (dk_at dksX2_part_1 0 rfl rfl)
theorem dX2_part_26 : decode cX2_part 26 = .ok (.lstore 7, 2) := dk_55 7 (dk_at dksX2_part_1 2 rfl rfl)
theorem dX2_part_28 : decode cX2_part 28 = .ok (.goto (-22), 3) := dk_167 255 234 (dk_at dksX2_part_1 4 rfl rfl)
theorem dX2_part_31 : decode cX2_part 31 = .ok (.aload_n 0, 1) := dk_42 (dk_at dksX2_part_1 7 rfl rfl)
theorem dX2_part_32 : decode cX2_part 32 = .ok (.lload_n 1, 1) := dk_31 (dk_at dksX2_part_1 8 rfl rfl)
theorem dX2_part_33 : decode cX2_part 33 = .ok (.lload 5, 2) := dk_22 5 (dk_at dksX2_part_1 9 rfl rfl)
theorem dX2_part_35 : decode cX2_part 35 = .ok (.ldiv, 1) := dk_109 (dk_at dksX2_part_1 11 rfl rfl)
theorem dX2_part_36 : decode cX2_part 36 = .ok (.putfield 90, 3) := dk_181 0 90 (dk_at dksX2_part_1 12 rfl rfl)
theorem dX2_part_39 : decode cX2_part 39 = .ok (.aload_n 0, 1) := dk_42 (dk_at dksX2_part_1 15 rfl rfl)
theorem dX2_part_40 : decode cX2_part 40 = .ok (.lload_n 3, 1) := dk_33 (dk_at dksX2_part_1 16 rfl rfl)
theorem dX2_part_41 : decode cX2_part 41 = .ok (.lload 5, 2) := dk_22 5 (dk_at dksX2_part_1 17 rfl rfl)
theorem dX2_part_43 : decode cX2_part 43 = .ok (.ldiv, 1) := dk_109 (dk_at dksX2_part_1 19 rfl rfl)
theorem dX2_part_44 : decode cX2_part 44 = .ok (.putfield 13, 3) := dk_181 0 13 (dk_at dksX2_part_1 20 rfl rfl)
theorem dX2_part_47 : decode cX2_part 47 = .ok (.iconst 1, 1) := dk_4 (dk_at dksX2_part_1 23 rfl rfl)
theorem dX2_part_48 : decode cX2_part 48 = .ok (.ireturn, 1) := dk_172 (dk_at dksX2_part_2 0 rfl rfl)
abbrev cX2_bet : ByteArray := prog_11_method_89_code
def yX2_bet : MethodName := ⟨RX2, "bet", "(II)I"⟩
def dkwX2_bet_2 : List UInt8 := [182, 1, 19, 33, 182, 1, 15, 172]
abbrev dktX2_bet_2 : List UInt8 := dkwX2_bet_2 ++ []
def dkwX2_bet_1 : List UInt8 := [21, 5, 28, 162, 0, 15, 33, 20, 1, 23, 105, 66, 132, 5, 1, 167, 255, 241, 42, 42, 3, 28, 27, 33]
abbrev dktX2_bet_1 : List UInt8 := dkwX2_bet_1 ++ dktX2_bet_2
def dkwX2_bet_0 : List UInt8 := [42, 27, 182, 0, 174, 153, 0, 12, 28, 3, 8, 184, 0, 83, 154, 0, 5, 2, 172, 10, 66, 3, 54, 5]
abbrev dktX2_bet_0 : List UInt8 := dkwX2_bet_0 ++ dktX2_bet_1
theorem dksX2_bet_0 : cX2_bet.data.toList.drop 0 = dktX2_bet_0 := by decide +kernel
theorem dksX2_bet_1 : cX2_bet.data.toList.drop 24 = dktX2_bet_1 := dk_seg dksX2_bet_0 24 rfl rfl
theorem dksX2_bet_2 : cX2_bet.data.toList.drop 48 = dktX2_bet_2 := dk_seg dksX2_bet_1 24 rfl rfl
theorem dX2_bet_0 : decode cX2_bet 0 = .ok (.aload_n 0, 1) := dk_42 (dk_at dksX2_bet_0 0 rfl rfl)
theorem dX2_bet_1 : decode cX2_bet 1 = .ok (.iload_n 1, 1) := dk_27 (dk_at dksX2_bet_0 1 rfl rfl)
theorem dX2_bet_2 : decode cX2_bet 2 = .ok (.invokevirtual 174, 3) := dk_182 0 174 (dk_at dksX2_bet_0 2 rfl rfl)
theorem dX2_bet_5 : decode cX2_bet 5 = .ok (.ifCond .eq 12, 3) := dk_153 0 12 (dk_at dksX2_bet_0 5 rfl rfl)
theorem dX2_bet_8 : decode cX2_bet 8 = .ok (.iload_n 2, 1) := dk_28 (dk_at dksX2_bet_0 8 rfl rfl)
theorem dX2_bet_9 : decode cX2_bet 9 = .ok (.iconst 0, 1) := dk_3 (dk_at dksX2_bet_0 9 rfl rfl)
theorem dX2_bet_10 : decode cX2_bet 10 = .ok (.iconst 5, 1) := dk_8 (dk_at dksX2_bet_0 10 rfl rfl)
theorem dX2_bet_11 : decode cX2_bet 11 = .ok (.invokestatic 83, 3) := dk_184 0 83 (dk_at dksX2_bet_0 11 rfl rfl)
theorem dX2_bet_14 : decode cX2_bet 14 = .ok (.ifCond .ne 5, 3) := dk_154 0 5 (dk_at dksX2_bet_0 14 rfl rfl)
theorem dX2_bet_17 : decode cX2_bet 17 = .ok (.iconst (-1), 1) := dk_2 (dk_at dksX2_bet_0 17 rfl rfl)
theorem dX2_bet_18 : decode cX2_bet 18 = .ok (.ireturn, 1) := dk_172 (dk_at dksX2_bet_0 18 rfl rfl)
theorem dX2_bet_19 : decode cX2_bet 19 = .ok (.lconst 1, 1) := dk_10 (dk_at dksX2_bet_0 19 rfl rfl)
theorem dX2_bet_20 : decode cX2_bet 20 = .ok (.lstore_n 3, 1) := dk_66 (dk_at dksX2_bet_0 20 rfl rfl)
theorem dX2_bet_21 : decode cX2_bet 21 = .ok (.iconst 0, 1) := dk_3 (dk_at dksX2_bet_0 21 rfl rfl)
theorem dX2_bet_22 : decode cX2_bet 22 = .ok (.istore 5, 2) := dk_54 5 (dk_at dksX2_bet_0 22 rfl rfl)
theorem dX2_bet_24 : decode cX2_bet 24 = .ok (.iload 5, 2) := dk_21 5 (dk_at dksX2_bet_1 0 rfl rfl)
theorem dX2_bet_26 : decode cX2_bet 26 = .ok (.iload_n 2, 1) := dk_28 (dk_at dksX2_bet_1 2 rfl rfl)
theorem dX2_bet_27 : decode cX2_bet 27 = .ok (.if_icmp .ge 15, 3) := dk_162 0 15 (dk_at dksX2_bet_1 3 rfl rfl)
theorem dX2_bet_30 : decode cX2_bet 30 = .ok (.lload_n 3, 1) := dk_33 (dk_at dksX2_bet_1 6 rfl rfl)
theorem dX2_bet_31 : decode cX2_bet 31 = .ok (.ldc2_w 279, 3) := dk_20 1 23 (dk_at dksX2_bet_1 7 rfl rfl)
theorem dX2_bet_34 : decode cX2_bet 34 = .ok (.lmul, 1) := dk_105 (dk_at dksX2_bet_1 10 rfl rfl)
theorem dX2_bet_35 : decode cX2_bet 35 = .ok (.lstore_n 3, 1) := dk_66 (dk_at dksX2_bet_1 11 rfl rfl)
theorem dX2_bet_36 : decode cX2_bet 36 = .ok (.iinc 5 1, 3) := dk_132 5 1 (dk_at dksX2_bet_1 12 rfl rfl)
theorem dX2_bet_39 : decode cX2_bet 39 = .ok (.goto (-15), 3) := dk_167 255 241 (dk_at dksX2_bet_1 15 rfl rfl)
theorem dX2_bet_42 : decode cX2_bet 42 = .ok (.aload_n 0, 1) := dk_42 (dk_at dksX2_bet_1 18 rfl rfl)
theorem dX2_bet_43 : decode cX2_bet 43 = .ok (.aload_n 0, 1) := dk_42 (dk_at dksX2_bet_1 19 rfl rfl)
theorem dX2_bet_44 : decode cX2_bet 44 = .ok (.iconst 0, 1) := dk_3 (dk_at dksX2_bet_1 20 rfl rfl)
theorem dX2_bet_45 : decode cX2_bet 45 = .ok (.iload_n 2, 1) := dk_28 (dk_at dksX2_bet_1 21 rfl rfl)
theorem dX2_bet_46 : decode cX2_bet 46 = .ok (.iload_n 1, 1) := dk_27 (dk_at dksX2_bet_1 22 rfl rfl)
theorem dX2_bet_47 : decode cX2_bet 47 = .ok (.lload_n 3, 1) := dk_33 (dk_at dksX2_bet_1 23 rfl rfl)
theorem dX2_bet_48 : decode cX2_bet 48 = .ok (.invokevirtual 275, 3) := dk_182 1 19 (dk_at dksX2_bet_2 0 rfl rfl)
theorem dX2_bet_51 : decode cX2_bet 51 = .ok (.lload_n 3, 1) := dk_33 (dk_at dksX2_bet_2 3 rfl rfl)
theorem dX2_bet_52 : decode cX2_bet 52 = .ok (.invokevirtual 271, 3) := dk_182 1 15 (dk_at dksX2_bet_2 4 rfl rfl)
theorem dX2_bet_55 : decode cX2_bet 55 = .ok (.ireturn, 1) := dk_172 (dk_at dksX2_bet_2 7 rfl rfl)
abbrev cX2_betFrom : ByteArray := prog_11_method_88_code
def yX2_betFrom : MethodName := ⟨RX2, "betFrom", "(IIIJ)J"⟩
def dkwX2_betFrom_4 : List UInt8 := [109, 182, 1, 19, 97, 55, 7, 132, 9, 1, 167, 255, 192, 22, 7, 173]
abbrev dktX2_betFrom_4 : List UInt8 := dkwX2_betFrom_4 ++ []
def dkwX2_betFrom_3 : List UInt8 := [96, 21, 9, 182, 0, 192, 22, 7, 42, 27, 4, 96, 28, 4, 100, 29, 22, 4, 21, 6, 184, 0, 186, 133]
abbrev dktX2_betFrom_3 : List UInt8 := dkwX2_betFrom_3 ++ dktX2_betFrom_4
def dkwX2_betFrom_2 : List UInt8 := [162, 0, 61, 21, 6, 21, 9, 184, 0, 232, 153, 0, 45, 42, 27, 27, 4, 96, 182, 0, 212, 42, 27, 4]
abbrev dktX2_betFrom_2 : List UInt8 := dkwX2_betFrom_2 ++ dktX2_betFrom_3
def dkwX2_betFrom_1 : List UInt8 := [153, 0, 8, 22, 4, 167, 0, 4, 9, 173, 9, 55, 7, 3, 54, 9, 21, 9, 42, 180, 0, 142]
abbrev dktX2_betFrom_1 : List UInt8 := dkwX2_betFrom_1 ++ dktX2_betFrom_2
def dkwX2_betFrom_0 : List UInt8 := [42, 27, 182, 0, 183, 54, 6, 28, 153, 0, 8, 21, 6, 154, 0, 19, 21, 6, 29, 184, 0, 232]
abbrev dktX2_betFrom_0 : List UInt8 := dkwX2_betFrom_0 ++ dktX2_betFrom_1
theorem dksX2_betFrom_0 : cX2_betFrom.data.toList.drop 0 = dktX2_betFrom_0 := by decide +kernel
theorem dksX2_betFrom_1 : cX2_betFrom.data.toList.drop 22 = dktX2_betFrom_1 := dk_seg dksX2_betFrom_0 22 rfl rfl
theorem dksX2_betFrom_2 : cX2_betFrom.data.toList.drop 44 = dktX2_betFrom_2 := dk_seg dksX2_betFrom_1 22 rfl rfl
theorem dksX2_betFrom_3 : cX2_betFrom.data.toList.drop 68 = dktX2_betFrom_3 := dk_seg dksX2_betFrom_2 24 rfl rfl
theorem dksX2_betFrom_4 : cX2_betFrom.data.toList.drop 92 = dktX2_betFrom_4 := dk_seg dksX2_betFrom_3 24 rfl rfl
theorem dX2_betFrom_0 : decode cX2_betFrom 0 = .ok (.aload_n 0, 1) := dk_42 (dk_at dksX2_betFrom_0 0 rfl rfl)
theorem dX2_betFrom_1 : decode cX2_betFrom 1 = .ok (.iload_n 1, 1) := dk_27 (dk_at dksX2_betFrom_0 1 rfl rfl)
theorem dX2_betFrom_2 : decode cX2_betFrom 2 = .ok (.invokevirtual 183, 3) := dk_182 0 183 (dk_at dksX2_betFrom_0 2 rfl rfl)
theorem dX2_betFrom_5 : decode cX2_betFrom 5 = .ok (.istore 6, 2) := dk_54 6 (dk_at dksX2_betFrom_0 5 rfl rfl)
theorem dX2_betFrom_7 : decode cX2_betFrom 7 = .ok (.iload_n 2, 1) := dk_28 (dk_at dksX2_betFrom_0 7 rfl rfl)
theorem dX2_betFrom_8 : decode cX2_betFrom 8 = .ok (.ifCond .eq 8, 3) := dk_153 0 8 (dk_at dksX2_betFrom_0 8 rfl rfl)
theorem dX2_betFrom_11 : decode cX2_betFrom 11 = .ok (.iload 6, 2) := dk_21 6 (dk_at dksX2_betFrom_0 11 rfl rfl)
theorem dX2_betFrom_13 : decode cX2_betFrom 13 = .ok (.ifCond .ne 19, 3) := dk_154 0 19 (dk_at dksX2_betFrom_0 13 rfl rfl)
theorem dX2_betFrom_16 : decode cX2_betFrom 16 = .ok (.iload 6, 2) := dk_21 6 (dk_at dksX2_betFrom_0 16 rfl rfl)
theorem dX2_betFrom_18 : decode cX2_betFrom 18 = .ok (.iload_n 3, 1) := dk_29 (dk_at dksX2_betFrom_0 18 rfl rfl)
theorem dX2_betFrom_19 : decode cX2_betFrom 19 = .ok (.invokestatic 232, 3) := dk_184 0 232 (dk_at dksX2_betFrom_0 19 rfl rfl)
theorem dX2_betFrom_22 : decode cX2_betFrom 22 = .ok (.ifCond .eq 8, 3) := dk_153 0 8 (dk_at dksX2_betFrom_1 0 rfl rfl)
theorem dX2_betFrom_25 : decode cX2_betFrom 25 = .ok (.lload 4, 2) := dk_22 4 (dk_at dksX2_betFrom_1 3 rfl rfl)
theorem dX2_betFrom_27 : decode cX2_betFrom 27 = .ok (.goto 4, 3) := dk_167 0 4 (dk_at dksX2_betFrom_1 5 rfl rfl)
theorem dX2_betFrom_30 : decode cX2_betFrom 30 = .ok (.lconst 0, 1) := dk_9 (dk_at dksX2_betFrom_1 8 rfl rfl)
theorem dX2_betFrom_31 : decode cX2_betFrom 31 = .ok (.lreturn, 1) := dk_173 (dk_at dksX2_betFrom_1 9 rfl rfl)
theorem dX2_betFrom_32 : decode cX2_betFrom 32 = .ok (.lconst 0, 1) := dk_9 (dk_at dksX2_betFrom_1 10 rfl rfl)
theorem dX2_betFrom_33 : decode cX2_betFrom 33 = .ok (.lstore 7, 2) := dk_55 7 (dk_at dksX2_betFrom_1 11 rfl rfl)
theorem dX2_betFrom_35 : decode cX2_betFrom 35 = .ok (.iconst 0, 1) := dk_3 (dk_at dksX2_betFrom_1 13 rfl rfl)
theorem dX2_betFrom_36 : decode cX2_betFrom 36 = .ok (.istore 9, 2) := dk_54 9 (dk_at dksX2_betFrom_1 14 rfl rfl)
theorem dX2_betFrom_38 : decode cX2_betFrom 38 = .ok (.iload 9, 2) := dk_21 9 (dk_at dksX2_betFrom_1 16 rfl rfl)
theorem dX2_betFrom_40 : decode cX2_betFrom 40 = .ok (.aload_n 0, 1) := dk_42 (dk_at dksX2_betFrom_1 18 rfl rfl)
theorem dX2_betFrom_41 : decode cX2_betFrom 41 = .ok (.getfield 142, 3) := dk_180 0 142 (dk_at dksX2_betFrom_1 19 rfl rfl)
theorem dX2_betFrom_44 : decode cX2_betFrom 44 = .ok (.if_icmp .ge 61, 3) := dk_162 0 61 (dk_at dksX2_betFrom_2 0 rfl rfl)
theorem dX2_betFrom_47 : decode cX2_betFrom 47 = .ok (.iload 6, 2) := dk_21 6 (dk_at dksX2_betFrom_2 3 rfl rfl)
theorem dX2_betFrom_49 : decode cX2_betFrom 49 = .ok (.iload 9, 2) := dk_21 9 (dk_at dksX2_betFrom_2 5 rfl rfl)
theorem dX2_betFrom_51 : decode cX2_betFrom 51 = .ok (.invokestatic 232, 3) := dk_184 0 232 (dk_at dksX2_betFrom_2 7 rfl rfl)
theorem dX2_betFrom_54 : decode cX2_betFrom 54 = .ok (.ifCond .eq 45, 3) := dk_153 0 45 (dk_at dksX2_betFrom_2 10 rfl rfl)
theorem dX2_betFrom_57 : decode cX2_betFrom 57 = .ok (.aload_n 0, 1) := dk_42 (dk_at dksX2_betFrom_2 13 rfl rfl)
theorem dX2_betFrom_58 : decode cX2_betFrom 58 = .ok (.iload_n 1, 1) := dk_27 (dk_at dksX2_betFrom_2 14 rfl rfl)
theorem dX2_betFrom_59 : decode cX2_betFrom 59 = .ok (.iload_n 1, 1) := dk_27 (dk_at dksX2_betFrom_2 15 rfl rfl)
theorem dX2_betFrom_60 : decode cX2_betFrom 60 = .ok (.iconst 1, 1) := dk_4 (dk_at dksX2_betFrom_2 16 rfl rfl)
theorem dX2_betFrom_61 : decode cX2_betFrom 61 = .ok (.iadd, 1) := dk_96 (dk_at dksX2_betFrom_2 17 rfl rfl)
theorem dX2_betFrom_62 : decode cX2_betFrom 62 = .ok (.invokevirtual 212, 3) := dk_182 0 212 (dk_at dksX2_betFrom_2 18 rfl rfl)
theorem dX2_betFrom_65 : decode cX2_betFrom 65 = .ok (.aload_n 0, 1) := dk_42 (dk_at dksX2_betFrom_2 21 rfl rfl)
theorem dX2_betFrom_66 : decode cX2_betFrom 66 = .ok (.iload_n 1, 1) := dk_27 (dk_at dksX2_betFrom_2 22 rfl rfl)
theorem dX2_betFrom_67 : decode cX2_betFrom 67 = .ok (.iconst 1, 1) := dk_4 (dk_at dksX2_betFrom_2 23 rfl rfl)
theorem dX2_betFrom_68 : decode cX2_betFrom 68 = .ok (.iadd, 1) := dk_96 (dk_at dksX2_betFrom_3 0 rfl rfl)
theorem dX2_betFrom_69 : decode cX2_betFrom 69 = .ok (.iload 9, 2) := dk_21 9 (dk_at dksX2_betFrom_3 1 rfl rfl)
theorem dX2_betFrom_71 : decode cX2_betFrom 71 = .ok (.invokevirtual 192, 3) := dk_182 0 192 (dk_at dksX2_betFrom_3 3 rfl rfl)
theorem dX2_betFrom_74 : decode cX2_betFrom 74 = .ok (.lload 7, 2) := dk_22 7 (dk_at dksX2_betFrom_3 6 rfl rfl)
theorem dX2_betFrom_76 : decode cX2_betFrom 76 = .ok (.aload_n 0, 1) := dk_42 (dk_at dksX2_betFrom_3 8 rfl rfl)
theorem dX2_betFrom_77 : decode cX2_betFrom 77 = .ok (.iload_n 1, 1) := dk_27 (dk_at dksX2_betFrom_3 9 rfl rfl)
theorem dX2_betFrom_78 : decode cX2_betFrom 78 = .ok (.iconst 1, 1) := dk_4 (dk_at dksX2_betFrom_3 10 rfl rfl)
theorem dX2_betFrom_79 : decode cX2_betFrom 79 = .ok (.iadd, 1) := dk_96 (dk_at dksX2_betFrom_3 11 rfl rfl)
theorem dX2_betFrom_80 : decode cX2_betFrom 80 = .ok (.iload_n 2, 1) := dk_28 (dk_at dksX2_betFrom_3 12 rfl rfl)
theorem dX2_betFrom_81 : decode cX2_betFrom 81 = .ok (.iconst 1, 1) := dk_4 (dk_at dksX2_betFrom_3 13 rfl rfl)
theorem dX2_betFrom_82 : decode cX2_betFrom 82 = .ok (.isub, 1) := dk_100 (dk_at dksX2_betFrom_3 14 rfl rfl)
theorem dX2_betFrom_83 : decode cX2_betFrom 83 = .ok (.iload_n 3, 1) := dk_29 (dk_at dksX2_betFrom_3 15 rfl rfl)
theorem dX2_betFrom_84 : decode cX2_betFrom 84 = .ok (.lload 4, 2) := dk_22 4 (dk_at dksX2_betFrom_3 16 rfl rfl)
theorem dX2_betFrom_86 : decode cX2_betFrom 86 = .ok (.iload 6, 2) := dk_21 6 (dk_at dksX2_betFrom_3 18 rfl rfl)
theorem dX2_betFrom_88 : decode cX2_betFrom 88 = .ok (.invokestatic 186, 3) := dk_184 0 186 (dk_at dksX2_betFrom_3 20 rfl rfl)
theorem dX2_betFrom_91 : decode cX2_betFrom 91 = .ok (.i2l, 1) := dk_133 (dk_at dksX2_betFrom_3 23 rfl rfl)
theorem dX2_betFrom_92 : decode cX2_betFrom 92 = .ok (.ldiv, 1) := dk_109 (dk_at dksX2_betFrom_4 0 rfl rfl)
theorem dX2_betFrom_93 : decode cX2_betFrom 93 = .ok (.invokevirtual 275, 3) := dk_182 1 19 (dk_at dksX2_betFrom_4 1 rfl rfl)
theorem dX2_betFrom_96 : decode cX2_betFrom 96 = .ok (.ladd, 1) := dk_97 (dk_at dksX2_betFrom_4 4 rfl rfl)
theorem dX2_betFrom_97 : decode cX2_betFrom 97 = .ok (.lstore 7, 2) := dk_55 7 (dk_at dksX2_betFrom_4 5 rfl rfl)
theorem dX2_betFrom_99 : decode cX2_betFrom 99 = .ok (.iinc 9 1, 3) := dk_132 9 1 (dk_at dksX2_betFrom_4 7 rfl rfl)
theorem dX2_betFrom_102 : decode cX2_betFrom 102 = .ok (.goto (-64), 3) := dk_167 255 192 (dk_at dksX2_betFrom_4 10 rfl rfl)
theorem dX2_betFrom_105 : decode cX2_betFrom 105 = .ok (.lload 7, 2) := dk_22 7 (dk_at dksX2_betFrom_4 13 rfl rfl)
theorem dX2_betFrom_107 : decode cX2_betFrom 107 = .ok (.lreturn, 1) := dk_173 (dk_at dksX2_betFrom_4 15 rfl rfl)
abbrev cX2_wind : ByteArray := prog_11_method_90_code
def yX2_wind : MethodName := ⟨RX2, "wind", "(II)I"⟩
def dkwX2_wind_6 : List UInt8 := [42, 3, 21, 8, 182, 0, 192, 132, 5, 1, 167, 255, 156, 21, 5, 172]
abbrev dktX2_wind_6 : List UInt8 := dkwX2_wind_6 ++ []
def dkwX2_wind_5 : List UInt8 := [184, 0, 232, 153, 0, 7, 4, 167, 0, 4, 3, 100, 54, 7, 132, 8, 1, 167, 255, 218, 42, 182, 0, 189]
abbrev dktX2_wind_5 : List UInt8 := dkwX2_wind_5 ++ dktX2_wind_6
def dkwX2_wind_4 : List UInt8 := [54, 8, 21, 6, 21, 8, 184, 0, 232, 153, 0, 8, 21, 7, 158, 0, 29, 21, 7, 21, 6, 21, 8]
abbrev dktX2_wind_4 : List UInt8 := dkwX2_wind_4 ++ dktX2_wind_5
def dkwX2_wind_3 : List UInt8 := [20, 1, 28, 113, 66, 42, 3, 182, 0, 183, 54, 6, 33, 21, 6, 184, 0, 186, 133, 113, 136, 54, 7, 3]
abbrev dktX2_wind_3 : List UInt8 := dkwX2_wind_3 ++ dktX2_wind_4
def dkwX2_wind_2 : List UInt8 := [133, 66, 3, 54, 5, 21, 5, 27, 162, 0, 100, 42, 3, 182, 0, 183, 153, 0, 92, 20, 1, 26, 33, 105]
abbrev dktX2_wind_2 : List UInt8 := dkwX2_wind_2 ++ dktX2_wind_3
def dkwX2_wind_1 : List UInt8 := [180, 0, 142, 154, 0, 6, 16, 252, 172, 42, 180, 0, 149, 27, 96, 16, 60, 164, 0, 6, 16, 254, 172, 28]
abbrev dktX2_wind_1 : List UInt8 := dkwX2_wind_1 ++ dktX2_wind_2
def dkwX2_wind_0 : List UInt8 := [27, 4, 16, 60, 184, 0, 83, 153, 0, 14, 28, 4, 19, 1, 25, 184, 0, 83, 154, 0, 5, 2, 172, 42]
abbrev dktX2_wind_0 : List UInt8 := dkwX2_wind_0 ++ dktX2_wind_1
theorem dksX2_wind_0 : cX2_wind.data.toList.drop 0 = dktX2_wind_0 := by decide +kernel
theorem dksX2_wind_1 : cX2_wind.data.toList.drop 24 = dktX2_wind_1 := dk_seg dksX2_wind_0 24 rfl rfl
theorem dksX2_wind_2 : cX2_wind.data.toList.drop 48 = dktX2_wind_2 := dk_seg dksX2_wind_1 24 rfl rfl
theorem dksX2_wind_3 : cX2_wind.data.toList.drop 72 = dktX2_wind_3 := dk_seg dksX2_wind_2 24 rfl rfl
theorem dksX2_wind_4 : cX2_wind.data.toList.drop 96 = dktX2_wind_4 := dk_seg dksX2_wind_3 24 rfl rfl
theorem dksX2_wind_5 : cX2_wind.data.toList.drop 119 = dktX2_wind_5 := dk_seg dksX2_wind_4 23 rfl rfl
theorem dksX2_wind_6 : cX2_wind.data.toList.drop 143 = dktX2_wind_6 := dk_seg dksX2_wind_5 24 rfl rfl
theorem dX2_wind_0 : decode cX2_wind 0 = .ok (.iload_n 1, 1) := dk_27 (dk_at dksX2_wind_0 0 rfl rfl)
theorem dX2_wind_1 : decode cX2_wind 1 = .ok (.iconst 1, 1) := dk_4 (dk_at dksX2_wind_0 1 rfl rfl)
theorem dX2_wind_2 : decode cX2_wind 2 = .ok (.bipush 60, 2) := dk_16 60 (dk_at dksX2_wind_0 2 rfl rfl)
theorem dX2_wind_4 : decode cX2_wind 4 = .ok (.invokestatic 83, 3) := dk_184 0 83 (dk_at dksX2_wind_0 4 rfl rfl)
theorem dX2_wind_7 : decode cX2_wind 7 = .ok (.ifCond .eq 14, 3) := dk_153 0 14 (dk_at dksX2_wind_0 7 rfl rfl)
theorem dX2_wind_10 : decode cX2_wind 10 = .ok (.iload_n 2, 1) := dk_28 (dk_at dksX2_wind_0 10 rfl rfl)
theorem dX2_wind_11 : decode cX2_wind 11 = .ok (.iconst 1, 1) := dk_4 (dk_at dksX2_wind_0 11 rfl rfl)
theorem dX2_wind_12 : decode cX2_wind 12 = .ok (.ldc_w 281, 3) := dk_19 1 25 (dk_at dksX2_wind_0 12 rfl rfl)
theorem dX2_wind_15 : decode cX2_wind 15 = .ok (.invokestatic 83, 3) := dk_184 0 83 (dk_at dksX2_wind_0 15 rfl rfl)
theorem dX2_wind_18 : decode cX2_wind 18 = .ok (.ifCond .ne 5, 3) := dk_154 0 5 (dk_at dksX2_wind_0 18 rfl rfl)
theorem dX2_wind_21 : decode cX2_wind 21 = .ok (.iconst (-1), 1) := dk_2 (dk_at dksX2_wind_0 21 rfl rfl)
theorem dX2_wind_22 : decode cX2_wind 22 = .ok (.ireturn, 1) := dk_172 (dk_at dksX2_wind_0 22 rfl rfl)
theorem dX2_wind_23 : decode cX2_wind 23 = .ok (.aload_n 0, 1) := dk_42 (dk_at dksX2_wind_0 23 rfl rfl)
theorem dX2_wind_24 : decode cX2_wind 24 = .ok (.getfield 142, 3) := dk_180 0 142 (dk_at dksX2_wind_1 0 rfl rfl)
theorem dX2_wind_27 : decode cX2_wind 27 = .ok (.ifCond .ne 6, 3) := dk_154 0 6 (dk_at dksX2_wind_1 3 rfl rfl)
theorem dX2_wind_30 : decode cX2_wind 30 = .ok (.bipush (-4), 2) := dk_16 252 (dk_at dksX2_wind_1 6 rfl rfl)
theorem dX2_wind_32 : decode cX2_wind 32 = .ok (.ireturn, 1) := dk_172 (dk_at dksX2_wind_1 8 rfl rfl)
theorem dX2_wind_33 : decode cX2_wind 33 = .ok (.aload_n 0, 1) := dk_42 (dk_at dksX2_wind_1 9 rfl rfl)
theorem dX2_wind_34 : decode cX2_wind 34 = .ok (.getfield 149, 3) := dk_180 0 149 (dk_at dksX2_wind_1 10 rfl rfl)
theorem dX2_wind_37 : decode cX2_wind 37 = .ok (.iload_n 1, 1) := dk_27 (dk_at dksX2_wind_1 13 rfl rfl)
theorem dX2_wind_38 : decode cX2_wind 38 = .ok (.iadd, 1) := dk_96 (dk_at dksX2_wind_1 14 rfl rfl)
theorem dX2_wind_39 : decode cX2_wind 39 = .ok (.bipush 60, 2) := dk_16 60 (dk_at dksX2_wind_1 15 rfl rfl)
theorem dX2_wind_41 : decode cX2_wind 41 = .ok (.if_icmp .le 6, 3) := dk_164 0 6 (dk_at dksX2_wind_1 17 rfl rfl)
theorem dX2_wind_44 : decode cX2_wind 44 = .ok (.bipush (-2), 2) := dk_16 254 (dk_at dksX2_wind_1 20 rfl rfl)
theorem dX2_wind_46 : decode cX2_wind 46 = .ok (.ireturn, 1) := dk_172 (dk_at dksX2_wind_1 22 rfl rfl)
theorem dX2_wind_47 : decode cX2_wind 47 = .ok (.iload_n 2, 1) := dk_28 (dk_at dksX2_wind_1 23 rfl rfl)
theorem dX2_wind_48 : decode cX2_wind 48 = .ok (.i2l, 1) := dk_133 (dk_at dksX2_wind_2 0 rfl rfl)
theorem dX2_wind_49 : decode cX2_wind 49 = .ok (.lstore_n 3, 1) := dk_66 (dk_at dksX2_wind_2 1 rfl rfl)
theorem dX2_wind_50 : decode cX2_wind 50 = .ok (.iconst 0, 1) := dk_3 (dk_at dksX2_wind_2 2 rfl rfl)
theorem dX2_wind_51 : decode cX2_wind 51 = .ok (.istore 5, 2) := dk_54 5 (dk_at dksX2_wind_2 3 rfl rfl)
theorem dX2_wind_53 : decode cX2_wind 53 = .ok (.iload 5, 2) := dk_21 5 (dk_at dksX2_wind_2 5 rfl rfl)
theorem dX2_wind_55 : decode cX2_wind 55 = .ok (.iload_n 1, 1) := dk_27 (dk_at dksX2_wind_2 7 rfl rfl)
theorem dX2_wind_56 : decode cX2_wind 56 = .ok (.if_icmp .ge 100, 3) := dk_162 0 100 (dk_at dksX2_wind_2 8 rfl rfl)
theorem dX2_wind_59 : decode cX2_wind 59 = .ok (.aload_n 0, 1) := dk_42 (dk_at dksX2_wind_2 11 rfl rfl)
theorem dX2_wind_60 : decode cX2_wind 60 = .ok (.iconst 0, 1) := dk_3 (dk_at dksX2_wind_2 12 rfl rfl)
theorem dX2_wind_61 : decode cX2_wind 61 = .ok (.invokevirtual 183, 3) := dk_182 0 183 (dk_at dksX2_wind_2 13 rfl rfl)
theorem dX2_wind_64 : decode cX2_wind 64 = .ok (.ifCond .eq 92, 3) := dk_153 0 92 (dk_at dksX2_wind_2 16 rfl rfl)
theorem dX2_wind_67 : decode cX2_wind 67 = .ok (.ldc2_w 282, 3) := dk_20 1 26 (dk_at dksX2_wind_2 19 rfl rfl)
theorem dX2_wind_70 : decode cX2_wind 70 = .ok (.lload_n 3, 1) := dk_33 (dk_at dksX2_wind_2 22 rfl rfl)
theorem dX2_wind_71 : decode cX2_wind 71 = .ok (.lmul, 1) := dk_105 (dk_at dksX2_wind_2 23 rfl rfl)
theorem dX2_wind_72 : decode cX2_wind 72 = .ok (.ldc2_w 284, 3) := dk_20 1 28 (dk_at dksX2_wind_3 0 rfl rfl)
theorem dX2_wind_75 : decode cX2_wind 75 = .ok (.lrem, 1) := dk_113 (dk_at dksX2_wind_3 3 rfl rfl)
theorem dX2_wind_76 : decode cX2_wind 76 = .ok (.lstore_n 3, 1) := dk_66 (dk_at dksX2_wind_3 4 rfl rfl)
theorem dX2_wind_77 : decode cX2_wind 77 = .ok (.aload_n 0, 1) := dk_42 (dk_at dksX2_wind_3 5 rfl rfl)
theorem dX2_wind_78 : decode cX2_wind 78 = .ok (.iconst 0, 1) := dk_3 (dk_at dksX2_wind_3 6 rfl rfl)
theorem dX2_wind_79 : decode cX2_wind 79 = .ok (.invokevirtual 183, 3) := dk_182 0 183 (dk_at dksX2_wind_3 7 rfl rfl)
theorem dX2_wind_82 : decode cX2_wind 82 = .ok (.istore 6, 2) := dk_54 6 (dk_at dksX2_wind_3 10 rfl rfl)
theorem dX2_wind_84 : decode cX2_wind 84 = .ok (.lload_n 3, 1) := dk_33 (dk_at dksX2_wind_3 12 rfl rfl)
theorem dX2_wind_85 : decode cX2_wind 85 = .ok (.iload 6, 2) := dk_21 6 (dk_at dksX2_wind_3 13 rfl rfl)
theorem dX2_wind_87 : decode cX2_wind 87 = .ok (.invokestatic 186, 3) := dk_184 0 186 (dk_at dksX2_wind_3 15 rfl rfl)
theorem dX2_wind_90 : decode cX2_wind 90 = .ok (.i2l, 1) := dk_133 (dk_at dksX2_wind_3 18 rfl rfl)
theorem dX2_wind_91 : decode cX2_wind 91 = .ok (.lrem, 1) := dk_113 (dk_at dksX2_wind_3 19 rfl rfl)
theorem dX2_wind_92 : decode cX2_wind 92 = .ok (.l2i, 1) := dk_136 (dk_at dksX2_wind_3 20 rfl rfl)
theorem dX2_wind_93 : decode cX2_wind 93 = .ok (.istore 7, 2) := dk_54 7 (dk_at dksX2_wind_3 21 rfl rfl)
theorem dX2_wind_95 : decode cX2_wind 95 = .ok (.iconst 0, 1) := dk_3 (dk_at dksX2_wind_3 23 rfl rfl)
theorem dX2_wind_96 : decode cX2_wind 96 = .ok (.istore 8, 2) := dk_54 8 (dk_at dksX2_wind_4 0 rfl rfl)
theorem dX2_wind_98 : decode cX2_wind 98 = .ok (.iload 6, 2) := dk_21 6 (dk_at dksX2_wind_4 2 rfl rfl)
theorem dX2_wind_100 : decode cX2_wind 100 = .ok (.iload 8, 2) := dk_21 8 (dk_at dksX2_wind_4 4 rfl rfl)
theorem dX2_wind_102 : decode cX2_wind 102 = .ok (.invokestatic 232, 3) := dk_184 0 232 (dk_at dksX2_wind_4 6 rfl rfl)
theorem dX2_wind_105 : decode cX2_wind 105 = .ok (.ifCond .eq 8, 3) := dk_153 0 8 (dk_at dksX2_wind_4 9 rfl rfl)
theorem dX2_wind_108 : decode cX2_wind 108 = .ok (.iload 7, 2) := dk_21 7 (dk_at dksX2_wind_4 12 rfl rfl)
theorem dX2_wind_110 : decode cX2_wind 110 = .ok (.ifCond .le 29, 3) := dk_158 0 29 (dk_at dksX2_wind_4 14 rfl rfl)
theorem dX2_wind_113 : decode cX2_wind 113 = .ok (.iload 7, 2) := dk_21 7 (dk_at dksX2_wind_4 17 rfl rfl)
theorem dX2_wind_115 : decode cX2_wind 115 = .ok (.iload 6, 2) := dk_21 6 (dk_at dksX2_wind_4 19 rfl rfl)
theorem dX2_wind_117 : decode cX2_wind 117 = .ok (.iload 8, 2) := dk_21 8 (dk_at dksX2_wind_4 21 rfl rfl)
theorem dX2_wind_119 : decode cX2_wind 119 = .ok (.invokestatic 232, 3) := dk_184 0 232 (dk_at dksX2_wind_5 0 rfl rfl)
theorem dX2_wind_122 : decode cX2_wind 122 = .ok (.ifCond .eq 7, 3) := dk_153 0 7 (dk_at dksX2_wind_5 3 rfl rfl)
theorem dX2_wind_125 : decode cX2_wind 125 = .ok (.iconst 1, 1) := dk_4 (dk_at dksX2_wind_5 6 rfl rfl)
theorem dX2_wind_126 : decode cX2_wind 126 = .ok (.goto 4, 3) := dk_167 0 4 (dk_at dksX2_wind_5 7 rfl rfl)
theorem dX2_wind_129 : decode cX2_wind 129 = .ok (.iconst 0, 1) := dk_3 (dk_at dksX2_wind_5 10 rfl rfl)
theorem dX2_wind_130 : decode cX2_wind 130 = .ok (.isub, 1) := dk_100 (dk_at dksX2_wind_5 11 rfl rfl)
theorem dX2_wind_131 : decode cX2_wind 131 = .ok (.istore 7, 2) := dk_54 7 (dk_at dksX2_wind_5 12 rfl rfl)
theorem dX2_wind_133 : decode cX2_wind 133 = .ok (.iinc 8 1, 3) := dk_132 8 1 (dk_at dksX2_wind_5 14 rfl rfl)
theorem dX2_wind_136 : decode cX2_wind 136 = .ok (.goto (-38), 3) := dk_167 255 218 (dk_at dksX2_wind_5 17 rfl rfl)
theorem dX2_wind_139 : decode cX2_wind 139 = .ok (.aload_n 0, 1) := dk_42 (dk_at dksX2_wind_5 20 rfl rfl)
theorem dX2_wind_140 : decode cX2_wind 140 = .ok (.invokevirtual 189, 3) := dk_182 0 189 (dk_at dksX2_wind_5 21 rfl rfl)
theorem dX2_wind_143 : decode cX2_wind 143 = .ok (.aload_n 0, 1) := dk_42 (dk_at dksX2_wind_6 0 rfl rfl)
theorem dX2_wind_144 : decode cX2_wind 144 = .ok (.iconst 0, 1) := dk_3 (dk_at dksX2_wind_6 1 rfl rfl)
theorem dX2_wind_145 : decode cX2_wind 145 = .ok (.iload 8, 2) := dk_21 8 (dk_at dksX2_wind_6 2 rfl rfl)
theorem dX2_wind_147 : decode cX2_wind 147 = .ok (.invokevirtual 192, 3) := dk_182 0 192 (dk_at dksX2_wind_6 4 rfl rfl)
theorem dX2_wind_150 : decode cX2_wind 150 = .ok (.iinc 5 1, 3) := dk_132 5 1 (dk_at dksX2_wind_6 7 rfl rfl)
theorem dX2_wind_153 : decode cX2_wind 153 = .ok (.goto (-100), 3) := dk_167 255 156 (dk_at dksX2_wind_6 10 rfl rfl)
theorem dX2_wind_156 : decode cX2_wind 156 = .ok (.iload 5, 2) := dk_21 5 (dk_at dksX2_wind_6 13 rfl rfl)
theorem dX2_wind_158 : decode cX2_wind 158 = .ok (.ireturn, 1) := dk_172 (dk_at dksX2_wind_6 15 rfl rfl)
abbrev cX2_count : ByteArray := prog_11_method_92_code
def yX2_count : MethodName := ⟨RX2, "count", "(I)I"⟩
def dkwX2_count_0 : List UInt8 := [27, 3, 16, 8, 184, 0, 83, 153, 0, 11, 42, 27, 182, 1, 30, 167, 0, 4, 2, 172]
abbrev dktX2_count_0 : List UInt8 := dkwX2_count_0 ++ []
theorem dksX2_count_0 : cX2_count.data.toList.drop 0 = dktX2_count_0 := by decide +kernel
theorem dX2_count_0 : decode cX2_count 0 = .ok (.iload_n 1, 1) := dk_27 (dk_at dksX2_count_0 0 rfl rfl)
theorem dX2_count_1 : decode cX2_count 1 = .ok (.iconst 0, 1) := dk_3 (dk_at dksX2_count_0 1 rfl rfl)
theorem dX2_count_2 : decode cX2_count 2 = .ok (.bipush 8, 2) := dk_16 8 (dk_at dksX2_count_0 2 rfl rfl)
theorem dX2_count_4 : decode cX2_count 4 = .ok (.invokestatic 83, 3) := dk_184 0 83 (dk_at dksX2_count_0 4 rfl rfl)
theorem dX2_count_7 : decode cX2_count 7 = .ok (.ifCond .eq 11, 3) := dk_153 0 11 (dk_at dksX2_count_0 7 rfl rfl)
theorem dX2_count_10 : decode cX2_count 10 = .ok (.aload_n 0, 1) := dk_42 (dk_at dksX2_count_0 10 rfl rfl)
theorem dX2_count_11 : decode cX2_count 11 = .ok (.iload_n 1, 1) := dk_27 (dk_at dksX2_count_0 11 rfl rfl)
theorem dX2_count_12 : decode cX2_count 12 = .ok (.invokevirtual 286, 3) := dk_182 1 30 (dk_at dksX2_count_0 12 rfl rfl)
theorem dX2_count_15 : decode cX2_count 15 = .ok (.goto 4, 3) := dk_167 0 4 (dk_at dksX2_count_0 15 rfl rfl)
theorem dX2_count_18 : decode cX2_count 18 = .ok (.iconst (-1), 1) := dk_2 (dk_at dksX2_count_0 18 rfl rfl)
theorem dX2_count_19 : decode cX2_count 19 = .ok (.ireturn, 1) := dk_172 (dk_at dksX2_count_0 19 rfl rfl)
abbrev cX2_counted : ByteArray := prog_11_method_91_code
def yX2_counted : MethodName := ⟨RX2, "counted", "(I)I"⟩
def dkwX2_counted_9 : List UInt8 := [182, 0, 152, 172, 42, 3, 16, 8, 182, 0, 152, 172, 28, 172]
abbrev dktX2_counted_9 : List UInt8 := dkwX2_counted_9 ++ []
def dkwX2_counted_8 : List UInt8 := [42, 180, 0, 142, 172, 42, 180, 0, 149, 172, 42, 3, 16, 6, 182, 0, 152, 172, 42, 3, 16, 7]
abbrev dktX2_counted_8 : List UInt8 := dkwX2_counted_8 ++ dktX2_counted_9
def dkwX2_counted_7 : List UInt8 := [170, 0, 0, 0, 0, 0, 69, 0, 0, 0, 0, 0, 0, 0, 4, 0, 0, 0, 35, 0, 0, 0, 40, 0, 0, 0, 45, 0, 0, 0, 53, 0, 0, 0, 61]
abbrev dktX2_counted_7 : List UInt8 := dkwX2_counted_7 ++ dktX2_counted_8
def dkwX2_counted_6 : List UInt8 := [29, 51, 153, 0, 7, 4, 167, 0, 4, 3, 96, 61, 132, 3, 1, 167, 255, 225, 27]
abbrev dktX2_counted_6 : List UInt8 := dkwX2_counted_6 ++ dktX2_counted_7
def dkwX2_counted_5 : List UInt8 := [132, 3, 1, 167, 255, 225, 3, 62, 29, 6, 162, 0, 32, 28, 27, 16, 8, 160, 0, 16, 42, 180, 0, 51]
abbrev dktX2_counted_5 : List UInt8 := dkwX2_counted_5 ++ dktX2_counted_6
def dkwX2_counted_4 : List UInt8 := [27, 16, 7, 160, 0, 16, 42, 180, 0, 26, 29, 46, 155, 0, 7, 4, 167, 0, 4, 3, 96, 61]
abbrev dktX2_counted_4 : List UInt8 := dkwX2_counted_4 ++ dktX2_counted_5
def dkwX2_counted_3 : List UInt8 := [155, 0, 7, 4, 167, 0, 4, 3, 96, 61, 132, 3, 1, 167, 255, 224, 3, 62, 29, 7, 162, 0, 32, 28]
abbrev dktX2_counted_3 : List UInt8 := dkwX2_counted_3 ++ dktX2_counted_4
def dkwX2_counted_2 : List UInt8 := [167, 255, 212, 3, 62, 29, 16, 6, 162, 0, 32, 28, 27, 16, 6, 160, 0, 16, 42, 180, 0, 17, 29, 46]
abbrev dktX2_counted_2 : List UInt8 := dkwX2_counted_2 ++ dktX2_counted_3
def dkwX2_counted_1 : List UInt8 := [4, 159, 0, 13, 42, 180, 0, 33, 29, 46, 7, 160, 0, 7, 4, 167, 0, 4, 3, 96, 61, 132, 3, 1]
abbrev dktX2_counted_1 : List UInt8 := dkwX2_counted_1 ++ dktX2_counted_2
def dkwX2_counted_0 : List UInt8 := [3, 61, 3, 62, 29, 42, 180, 0, 142, 162, 0, 42, 28, 27, 8, 160, 0, 27, 42, 180, 0, 33, 29, 46]
abbrev dktX2_counted_0 : List UInt8 := dkwX2_counted_0 ++ dktX2_counted_1
theorem dksX2_counted_0 : cX2_counted.data.toList.drop 0 = dktX2_counted_0 := by decide +kernel
theorem dksX2_counted_1 : cX2_counted.data.toList.drop 24 = dktX2_counted_1 := dk_seg dksX2_counted_0 24 rfl rfl
theorem dksX2_counted_2 : cX2_counted.data.toList.drop 48 = dktX2_counted_2 := dk_seg dksX2_counted_1 24 rfl rfl
theorem dksX2_counted_3 : cX2_counted.data.toList.drop 72 = dktX2_counted_3 := dk_seg dksX2_counted_2 24 rfl rfl
theorem dksX2_counted_4 : cX2_counted.data.toList.drop 96 = dktX2_counted_4 := dk_seg dksX2_counted_3 24 rfl rfl
theorem dksX2_counted_5 : cX2_counted.data.toList.drop 118 = dktX2_counted_5 := dk_seg dksX2_counted_4 22 rfl rfl
theorem dksX2_counted_6 : cX2_counted.data.toList.drop 142 = dktX2_counted_6 := dk_seg dksX2_counted_5 24 rfl rfl
theorem dksX2_counted_7 : cX2_counted.data.toList.drop 161 = dktX2_counted_7 := dk_seg dksX2_counted_6 19 rfl rfl
theorem dksX2_counted_8 : cX2_counted.data.toList.drop 196 = dktX2_counted_8 := dk_seg dksX2_counted_7 35 rfl rfl
theorem dksX2_counted_9 : cX2_counted.data.toList.drop 218 = dktX2_counted_9 := dk_seg dksX2_counted_8 22 rfl rfl
theorem dX2_counted_0 : decode cX2_counted 0 = .ok (.iconst 0, 1) := dk_3 (dk_at dksX2_counted_0 0 rfl rfl)
theorem dX2_counted_1 : decode cX2_counted 1 = .ok (.istore_n 2, 1) := dk_61 (dk_at dksX2_counted_0 1 rfl rfl)
theorem dX2_counted_2 : decode cX2_counted 2 = .ok (.iconst 0, 1) := dk_3 (dk_at dksX2_counted_0 2 rfl rfl)
theorem dX2_counted_3 : decode cX2_counted 3 = .ok (.istore_n 3, 1) := dk_62 (dk_at dksX2_counted_0 3 rfl rfl)
theorem dX2_counted_4 : decode cX2_counted 4 = .ok (.iload_n 3, 1) := dk_29 (dk_at dksX2_counted_0 4 rfl rfl)
theorem dX2_counted_5 : decode cX2_counted 5 = .ok (.aload_n 0, 1) := dk_42 (dk_at dksX2_counted_0 5 rfl rfl)
theorem dX2_counted_6 : decode cX2_counted 6 = .ok (.getfield 142, 3) := dk_180 0 142 (dk_at dksX2_counted_0 6 rfl rfl)
theorem dX2_counted_9 : decode cX2_counted 9 = .ok (.if_icmp .ge 42, 3) := dk_162 0 42 (dk_at dksX2_counted_0 9 rfl rfl)
theorem dX2_counted_12 : decode cX2_counted 12 = .ok (.iload_n 2, 1) := dk_28 (dk_at dksX2_counted_0 12 rfl rfl)
theorem dX2_counted_13 : decode cX2_counted 13 = .ok (.iload_n 1, 1) := dk_27 (dk_at dksX2_counted_0 13 rfl rfl)
theorem dX2_counted_14 : decode cX2_counted 14 = .ok (.iconst 5, 1) := dk_8 (dk_at dksX2_counted_0 14 rfl rfl)
theorem dX2_counted_15 : decode cX2_counted 15 = .ok (.if_icmp .ne 27, 3) := dk_160 0 27 (dk_at dksX2_counted_0 15 rfl rfl)
theorem dX2_counted_18 : decode cX2_counted 18 = .ok (.aload_n 0, 1) := dk_42 (dk_at dksX2_counted_0 18 rfl rfl)
theorem dX2_counted_19 : decode cX2_counted 19 = .ok (.getfield 33, 3) := dk_180 0 33 (dk_at dksX2_counted_0 19 rfl rfl)
theorem dX2_counted_22 : decode cX2_counted 22 = .ok (.iload_n 3, 1) := dk_29 (dk_at dksX2_counted_0 22 rfl rfl)
theorem dX2_counted_23 : decode cX2_counted 23 = .ok (.iaload, 1) := dk_46 (dk_at dksX2_counted_0 23 rfl rfl)
theorem dX2_counted_24 : decode cX2_counted 24 = .ok (.iconst 1, 1) := dk_4 (dk_at dksX2_counted_1 0 rfl rfl)
theorem dX2_counted_25 : decode cX2_counted 25 = .ok (.if_icmp .eq 13, 3) := dk_159 0 13 (dk_at dksX2_counted_1 1 rfl rfl)
theorem dX2_counted_28 : decode cX2_counted 28 = .ok (.aload_n 0, 1) := dk_42 (dk_at dksX2_counted_1 4 rfl rfl)
theorem dX2_counted_29 : decode cX2_counted 29 = .ok (.getfield 33, 3) := dk_180 0 33 (dk_at dksX2_counted_1 5 rfl rfl)
theorem dX2_counted_32 : decode cX2_counted 32 = .ok (.iload_n 3, 1) := dk_29 (dk_at dksX2_counted_1 8 rfl rfl)
theorem dX2_counted_33 : decode cX2_counted 33 = .ok (.iaload, 1) := dk_46 (dk_at dksX2_counted_1 9 rfl rfl)
theorem dX2_counted_34 : decode cX2_counted 34 = .ok (.iconst 4, 1) := dk_7 (dk_at dksX2_counted_1 10 rfl rfl)
theorem dX2_counted_35 : decode cX2_counted 35 = .ok (.if_icmp .ne 7, 3) := dk_160 0 7 (dk_at dksX2_counted_1 11 rfl rfl)
theorem dX2_counted_38 : decode cX2_counted 38 = .ok (.iconst 1, 1) := dk_4 (dk_at dksX2_counted_1 14 rfl rfl)
theorem dX2_counted_39 : decode cX2_counted 39 = .ok (.goto 4, 3) := dk_167 0 4 (dk_at dksX2_counted_1 15 rfl rfl)
theorem dX2_counted_42 : decode cX2_counted 42 = .ok (.iconst 0, 1) := dk_3 (dk_at dksX2_counted_1 18 rfl rfl)
theorem dX2_counted_43 : decode cX2_counted 43 = .ok (.iadd, 1) := dk_96 (dk_at dksX2_counted_1 19 rfl rfl)
theorem dX2_counted_44 : decode cX2_counted 44 = .ok (.istore_n 2, 1) := dk_61 (dk_at dksX2_counted_1 20 rfl rfl)
theorem dX2_counted_45 : decode cX2_counted 45 = .ok (.iinc 3 1, 3) := dk_132 3 1 (dk_at dksX2_counted_1 21 rfl rfl)
theorem dX2_counted_48 : decode cX2_counted 48 = .ok (.goto (-44), 3) := dk_167 255 212 (dk_at dksX2_counted_2 0 rfl rfl)
theorem dX2_counted_51 : decode cX2_counted 51 = .ok (.iconst 0, 1) := dk_3 (dk_at dksX2_counted_2 3 rfl rfl)
theorem dX2_counted_52 : decode cX2_counted 52 = .ok (.istore_n 3, 1) := dk_62 (dk_at dksX2_counted_2 4 rfl rfl)
theorem dX2_counted_53 : decode cX2_counted 53 = .ok (.iload_n 3, 1) := dk_29 (dk_at dksX2_counted_2 5 rfl rfl)
theorem dX2_counted_54 : decode cX2_counted 54 = .ok (.bipush 6, 2) := dk_16 6 (dk_at dksX2_counted_2 6 rfl rfl)
theorem dX2_counted_56 : decode cX2_counted 56 = .ok (.if_icmp .ge 32, 3) := dk_162 0 32 (dk_at dksX2_counted_2 8 rfl rfl)
theorem dX2_counted_59 : decode cX2_counted 59 = .ok (.iload_n 2, 1) := dk_28 (dk_at dksX2_counted_2 11 rfl rfl)
theorem dX2_counted_60 : decode cX2_counted 60 = .ok (.iload_n 1, 1) := dk_27 (dk_at dksX2_counted_2 12 rfl rfl)
theorem dX2_counted_61 : decode cX2_counted 61 = .ok (.bipush 6, 2) := dk_16 6 (dk_at dksX2_counted_2 13 rfl rfl)
theorem dX2_counted_63 : decode cX2_counted 63 = .ok (.if_icmp .ne 16, 3) := dk_160 0 16 (dk_at dksX2_counted_2 15 rfl rfl)
theorem dX2_counted_66 : decode cX2_counted 66 = .ok (.aload_n 0, 1) := dk_42 (dk_at dksX2_counted_2 18 rfl rfl)
theorem dX2_counted_67 : decode cX2_counted 67 = .ok (.getfield 17, 3) := dk_180 0 17 (dk_at dksX2_counted_2 19 rfl rfl)
theorem dX2_counted_70 : decode cX2_counted 70 = .ok (.iload_n 3, 1) := dk_29 (dk_at dksX2_counted_2 22 rfl rfl)
theorem dX2_counted_71 : decode cX2_counted 71 = .ok (.iaload, 1) := dk_46 (dk_at dksX2_counted_2 23 rfl rfl)
theorem dX2_counted_72 : decode cX2_counted 72 = .ok (.ifCond .lt 7, 3) := dk_155 0 7 (dk_at dksX2_counted_3 0 rfl rfl)
theorem dX2_counted_75 : decode cX2_counted 75 = .ok (.iconst 1, 1) := dk_4 (dk_at dksX2_counted_3 3 rfl rfl)
theorem dX2_counted_76 : decode cX2_counted 76 = .ok (.goto 4, 3) := dk_167 0 4 (dk_at dksX2_counted_3 4 rfl rfl)
theorem dX2_counted_79 : decode cX2_counted 79 = .ok (.iconst 0, 1) := dk_3 (dk_at dksX2_counted_3 7 rfl rfl)
theorem dX2_counted_80 : decode cX2_counted 80 = .ok (.iadd, 1) := dk_96 (dk_at dksX2_counted_3 8 rfl rfl)
theorem dX2_counted_81 : decode cX2_counted 81 = .ok (.istore_n 2, 1) := dk_61 (dk_at dksX2_counted_3 9 rfl rfl)
theorem dX2_counted_82 : decode cX2_counted 82 = .ok (.iinc 3 1, 3) := dk_132 3 1 (dk_at dksX2_counted_3 10 rfl rfl)
theorem dX2_counted_85 : decode cX2_counted 85 = .ok (.goto (-32), 3) := dk_167 255 224 (dk_at dksX2_counted_3 13 rfl rfl)
theorem dX2_counted_88 : decode cX2_counted 88 = .ok (.iconst 0, 1) := dk_3 (dk_at dksX2_counted_3 16 rfl rfl)
theorem dX2_counted_89 : decode cX2_counted 89 = .ok (.istore_n 3, 1) := dk_62 (dk_at dksX2_counted_3 17 rfl rfl)
theorem dX2_counted_90 : decode cX2_counted 90 = .ok (.iload_n 3, 1) := dk_29 (dk_at dksX2_counted_3 18 rfl rfl)
theorem dX2_counted_91 : decode cX2_counted 91 = .ok (.iconst 4, 1) := dk_7 (dk_at dksX2_counted_3 19 rfl rfl)
theorem dX2_counted_92 : decode cX2_counted 92 = .ok (.if_icmp .ge 32, 3) := dk_162 0 32 (dk_at dksX2_counted_3 20 rfl rfl)
theorem dX2_counted_95 : decode cX2_counted 95 = .ok (.iload_n 2, 1) := dk_28 (dk_at dksX2_counted_3 23 rfl rfl)
theorem dX2_counted_96 : decode cX2_counted 96 = .ok (.iload_n 1, 1) := dk_27 (dk_at dksX2_counted_4 0 rfl rfl)
theorem dX2_counted_97 : decode cX2_counted 97 = .ok (.bipush 7, 2) := dk_16 7 (dk_at dksX2_counted_4 1 rfl rfl)
theorem dX2_counted_99 : decode cX2_counted 99 = .ok (.if_icmp .ne 16, 3) := dk_160 0 16 (dk_at dksX2_counted_4 3 rfl rfl)
theorem dX2_counted_102 : decode cX2_counted 102 = .ok (.aload_n 0, 1) := dk_42 (dk_at dksX2_counted_4 6 rfl rfl)
theorem dX2_counted_103 : decode cX2_counted 103 = .ok (.getfield 26, 3) := dk_180 0 26 (dk_at dksX2_counted_4 7 rfl rfl)
theorem dX2_counted_106 : decode cX2_counted 106 = .ok (.iload_n 3, 1) := dk_29 (dk_at dksX2_counted_4 10 rfl rfl)
theorem dX2_counted_107 : decode cX2_counted 107 = .ok (.iaload, 1) := dk_46 (dk_at dksX2_counted_4 11 rfl rfl)
theorem dX2_counted_108 : decode cX2_counted 108 = .ok (.ifCond .lt 7, 3) := dk_155 0 7 (dk_at dksX2_counted_4 12 rfl rfl)
theorem dX2_counted_111 : decode cX2_counted 111 = .ok (.iconst 1, 1) := dk_4 (dk_at dksX2_counted_4 15 rfl rfl)
theorem dX2_counted_112 : decode cX2_counted 112 = .ok (.goto 4, 3) := dk_167 0 4 (dk_at dksX2_counted_4 16 rfl rfl)
theorem dX2_counted_115 : decode cX2_counted 115 = .ok (.iconst 0, 1) := dk_3 (dk_at dksX2_counted_4 19 rfl rfl)
theorem dX2_counted_116 : decode cX2_counted 116 = .ok (.iadd, 1) := dk_96 (dk_at dksX2_counted_4 20 rfl rfl)
theorem dX2_counted_117 : decode cX2_counted 117 = .ok (.istore_n 2, 1) := dk_61 (dk_at dksX2_counted_4 21 rfl rfl)
theorem dX2_counted_118 : decode cX2_counted 118 = .ok (.iinc 3 1, 3) := dk_132 3 1 (dk_at dksX2_counted_5 0 rfl rfl)
theorem dX2_counted_121 : decode cX2_counted 121 = .ok (.goto (-31), 3) := dk_167 255 225 (dk_at dksX2_counted_5 3 rfl rfl)
theorem dX2_counted_124 : decode cX2_counted 124 = .ok (.iconst 0, 1) := dk_3 (dk_at dksX2_counted_5 6 rfl rfl)
theorem dX2_counted_125 : decode cX2_counted 125 = .ok (.istore_n 3, 1) := dk_62 (dk_at dksX2_counted_5 7 rfl rfl)
theorem dX2_counted_126 : decode cX2_counted 126 = .ok (.iload_n 3, 1) := dk_29 (dk_at dksX2_counted_5 8 rfl rfl)
theorem dX2_counted_127 : decode cX2_counted 127 = .ok (.iconst 3, 1) := dk_6 (dk_at dksX2_counted_5 9 rfl rfl)
theorem dX2_counted_128 : decode cX2_counted 128 = .ok (.if_icmp .ge 32, 3) := dk_162 0 32 (dk_at dksX2_counted_5 10 rfl rfl)
theorem dX2_counted_131 : decode cX2_counted 131 = .ok (.iload_n 2, 1) := dk_28 (dk_at dksX2_counted_5 13 rfl rfl)
theorem dX2_counted_132 : decode cX2_counted 132 = .ok (.iload_n 1, 1) := dk_27 (dk_at dksX2_counted_5 14 rfl rfl)
theorem dX2_counted_133 : decode cX2_counted 133 = .ok (.bipush 8, 2) := dk_16 8 (dk_at dksX2_counted_5 15 rfl rfl)
theorem dX2_counted_135 : decode cX2_counted 135 = .ok (.if_icmp .ne 16, 3) := dk_160 0 16 (dk_at dksX2_counted_5 17 rfl rfl)
theorem dX2_counted_138 : decode cX2_counted 138 = .ok (.aload_n 0, 1) := dk_42 (dk_at dksX2_counted_5 20 rfl rfl)
theorem dX2_counted_139 : decode cX2_counted 139 = .ok (.getfield 51, 3) := dk_180 0 51 (dk_at dksX2_counted_5 21 rfl rfl)
theorem dX2_counted_142 : decode cX2_counted 142 = .ok (.iload_n 3, 1) := dk_29 (dk_at dksX2_counted_6 0 rfl rfl)
theorem dX2_counted_143 : decode cX2_counted 143 = .ok (.baload, 1) := dk_51 (dk_at dksX2_counted_6 1 rfl rfl)
theorem dX2_counted_144 : decode cX2_counted 144 = .ok (.ifCond .eq 7, 3) := dk_153 0 7 (dk_at dksX2_counted_6 2 rfl rfl)
theorem dX2_counted_147 : decode cX2_counted 147 = .ok (.iconst 1, 1) := dk_4 (dk_at dksX2_counted_6 5 rfl rfl)
theorem dX2_counted_148 : decode cX2_counted 148 = .ok (.goto 4, 3) := dk_167 0 4 (dk_at dksX2_counted_6 6 rfl rfl)
theorem dX2_counted_151 : decode cX2_counted 151 = .ok (.iconst 0, 1) := dk_3 (dk_at dksX2_counted_6 9 rfl rfl)
theorem dX2_counted_152 : decode cX2_counted 152 = .ok (.iadd, 1) := dk_96 (dk_at dksX2_counted_6 10 rfl rfl)
theorem dX2_counted_153 : decode cX2_counted 153 = .ok (.istore_n 2, 1) := dk_61 (dk_at dksX2_counted_6 11 rfl rfl)
theorem dX2_counted_154 : decode cX2_counted 154 = .ok (.iinc 3 1, 3) := dk_132 3 1 (dk_at dksX2_counted_6 12 rfl rfl)
theorem dX2_counted_157 : decode cX2_counted 157 = .ok (.goto (-31), 3) := dk_167 255 225 (dk_at dksX2_counted_6 15 rfl rfl)
theorem dX2_counted_160 : decode cX2_counted 160 = .ok (.iload_n 1, 1) := dk_27 (dk_at dksX2_counted_6 18 rfl rfl)
theorem dX2_counted_161 : decode cX2_counted 161 = .ok (.tableswitch 69 0 4 #[35, 40, 45, 53, 61], 35) := by decide +kernel
theorem dX2_counted_196 : decode cX2_counted 196 = .ok (.aload_n 0, 1) := dk_42 (dk_at dksX2_counted_8 0 rfl rfl)
theorem dX2_counted_197 : decode cX2_counted 197 = .ok (.getfield 142, 3) := dk_180 0 142 (dk_at dksX2_counted_8 1 rfl rfl)
theorem dX2_counted_200 : decode cX2_counted 200 = .ok (.ireturn, 1) := dk_172 (dk_at dksX2_counted_8 4 rfl rfl)
theorem dX2_counted_201 : decode cX2_counted 201 = .ok (.aload_n 0, 1) := dk_42 (dk_at dksX2_counted_8 5 rfl rfl)
theorem dX2_counted_202 : decode cX2_counted 202 = .ok (.getfield 149, 3) := dk_180 0 149 (dk_at dksX2_counted_8 6 rfl rfl)
theorem dX2_counted_205 : decode cX2_counted 205 = .ok (.ireturn, 1) := dk_172 (dk_at dksX2_counted_8 9 rfl rfl)
theorem dX2_counted_206 : decode cX2_counted 206 = .ok (.aload_n 0, 1) := dk_42 (dk_at dksX2_counted_8 10 rfl rfl)
theorem dX2_counted_207 : decode cX2_counted 207 = .ok (.iconst 0, 1) := dk_3 (dk_at dksX2_counted_8 11 rfl rfl)
theorem dX2_counted_208 : decode cX2_counted 208 = .ok (.bipush 6, 2) := dk_16 6 (dk_at dksX2_counted_8 12 rfl rfl)
theorem dX2_counted_210 : decode cX2_counted 210 = .ok (.invokevirtual 152, 3) := dk_182 0 152 (dk_at dksX2_counted_8 14 rfl rfl)
theorem dX2_counted_213 : decode cX2_counted 213 = .ok (.ireturn, 1) := dk_172 (dk_at dksX2_counted_8 17 rfl rfl)
theorem dX2_counted_214 : decode cX2_counted 214 = .ok (.aload_n 0, 1) := dk_42 (dk_at dksX2_counted_8 18 rfl rfl)
theorem dX2_counted_215 : decode cX2_counted 215 = .ok (.iconst 0, 1) := dk_3 (dk_at dksX2_counted_8 19 rfl rfl)
theorem dX2_counted_216 : decode cX2_counted 216 = .ok (.bipush 7, 2) := dk_16 7 (dk_at dksX2_counted_8 20 rfl rfl)
theorem dX2_counted_218 : decode cX2_counted 218 = .ok (.invokevirtual 152, 3) := dk_182 0 152 (dk_at dksX2_counted_9 0 rfl rfl)
theorem dX2_counted_221 : decode cX2_counted 221 = .ok (.ireturn, 1) := dk_172 (dk_at dksX2_counted_9 3 rfl rfl)
theorem dX2_counted_222 : decode cX2_counted 222 = .ok (.aload_n 0, 1) := dk_42 (dk_at dksX2_counted_9 4 rfl rfl)
theorem dX2_counted_223 : decode cX2_counted 223 = .ok (.iconst 0, 1) := dk_3 (dk_at dksX2_counted_9 5 rfl rfl)
theorem dX2_counted_224 : decode cX2_counted 224 = .ok (.bipush 8, 2) := dk_16 8 (dk_at dksX2_counted_9 6 rfl rfl)
theorem dX2_counted_226 : decode cX2_counted 226 = .ok (.invokevirtual 152, 3) := dk_182 0 152 (dk_at dksX2_counted_9 8 rfl rfl)
theorem dX2_counted_229 : decode cX2_counted 229 = .ok (.ireturn, 1) := dk_172 (dk_at dksX2_counted_9 11 rfl rfl)
theorem dX2_counted_230 : decode cX2_counted 230 = .ok (.iload_n 2, 1) := dk_28 (dk_at dksX2_counted_9 12 rfl rfl)
theorem dX2_counted_231 : decode cX2_counted 231 = .ok (.ireturn, 1) := dk_172 (dk_at dksX2_counted_9 13 rfl rfl)
abbrev cX2_digest : ByteArray := prog_11_method_95_code
def yX2_digest : MethodName := ⟨RX2, "digest", "()J"⟩
def dkwX2_digest_6 : List UInt8 := [167, 255, 208, 42, 180, 1, 35, 173]
abbrev dktX2_digest_6 : List UInt8 := dkwX2_digest_6 ++ []
def dkwX2_digest_5 : List UInt8 := [162, 0, 20, 42, 42, 27, 28, 182, 0, 114, 133, 182, 1, 38, 132, 2, 1, 167, 255, 232, 132, 1, 1]
abbrev dktX2_digest_5 : List UInt8 := dkwX2_digest_5 ++ dktX2_digest_6
def dkwX2_digest_4 : List UInt8 := [162, 0, 49, 42, 42, 180, 0, 26, 27, 46, 133, 182, 1, 38, 3, 61, 28, 42, 180, 0, 26, 27, 46]
abbrev dktX2_digest_4 : List UInt8 := dkwX2_digest_4 ++ dktX2_digest_5
def dkwX2_digest_3 : List UInt8 := [28, 182, 0, 101, 133, 182, 1, 38, 132, 2, 1, 167, 255, 232, 132, 1, 1, 167, 255, 207, 3, 60, 27, 7]
abbrev dktX2_digest_3 : List UInt8 := dkwX2_digest_3 ++ dktX2_digest_4
def dkwX2_digest_2 : List UInt8 := [180, 0, 17, 27, 46, 133, 182, 1, 38, 3, 61, 28, 42, 180, 0, 17, 27, 46, 162, 0, 20, 42, 42, 27]
abbrev dktX2_digest_2 : List UInt8 := dkwX2_digest_2 ++ dktX2_digest_3
def dkwX2_digest_1 : List UInt8 := [182, 1, 38, 132, 1, 1, 167, 255, 237, 42, 182, 1, 46, 3, 60, 27, 16, 6, 162, 0, 49, 42, 42]
abbrev dktX2_digest_1 : List UInt8 := dkwX2_digest_1 ++ dktX2_digest_2
def dkwX2_digest_0 : List UInt8 := [42, 20, 1, 44, 181, 1, 35, 3, 60, 27, 16, 9, 162, 0, 19, 42, 42, 27, 182, 1, 30, 133]
abbrev dktX2_digest_0 : List UInt8 := dkwX2_digest_0 ++ dktX2_digest_1
theorem dksX2_digest_0 : cX2_digest.data.toList.drop 0 = dktX2_digest_0 := by decide +kernel
theorem dksX2_digest_1 : cX2_digest.data.toList.drop 22 = dktX2_digest_1 := dk_seg dksX2_digest_0 22 rfl rfl
theorem dksX2_digest_2 : cX2_digest.data.toList.drop 45 = dktX2_digest_2 := dk_seg dksX2_digest_1 23 rfl rfl
theorem dksX2_digest_3 : cX2_digest.data.toList.drop 69 = dktX2_digest_3 := dk_seg dksX2_digest_2 24 rfl rfl
theorem dksX2_digest_4 : cX2_digest.data.toList.drop 93 = dktX2_digest_4 := dk_seg dksX2_digest_3 24 rfl rfl
theorem dksX2_digest_5 : cX2_digest.data.toList.drop 116 = dktX2_digest_5 := dk_seg dksX2_digest_4 23 rfl rfl
theorem dksX2_digest_6 : cX2_digest.data.toList.drop 139 = dktX2_digest_6 := dk_seg dksX2_digest_5 23 rfl rfl
theorem dX2_digest_0 : decode cX2_digest 0 = .ok (.aload_n 0, 1) := dk_42 (dk_at dksX2_digest_0 0 rfl rfl)
theorem dX2_digest_1 : decode cX2_digest 1 = .ok (.ldc2_w 300, 3) := dk_20 1 44 (dk_at dksX2_digest_0 1 rfl rfl)
theorem dX2_digest_4 : decode cX2_digest 4 = .ok (.putfield 291, 3) := dk_181 1 35 (dk_at dksX2_digest_0 4 rfl rfl)
theorem dX2_digest_7 : decode cX2_digest 7 = .ok (.iconst 0, 1) := dk_3 (dk_at dksX2_digest_0 7 rfl rfl)
theorem dX2_digest_8 : decode cX2_digest 8 = .ok (.istore_n 1, 1) := dk_60 (dk_at dksX2_digest_0 8 rfl rfl)
theorem dX2_digest_9 : decode cX2_digest 9 = .ok (.iload_n 1, 1) := dk_27 (dk_at dksX2_digest_0 9 rfl rfl)
theorem dX2_digest_10 : decode cX2_digest 10 = .ok (.bipush 9, 2) := dk_16 9 (dk_at dksX2_digest_0 10 rfl rfl)
theorem dX2_digest_12 : decode cX2_digest 12 = .ok (.if_icmp .ge 19, 3) := dk_162 0 19 (dk_at dksX2_digest_0 12 rfl rfl)
theorem dX2_digest_15 : decode cX2_digest 15 = .ok (.aload_n 0, 1) := dk_42 (dk_at dksX2_digest_0 15 rfl rfl)
theorem dX2_digest_16 : decode cX2_digest 16 = .ok (.aload_n 0, 1) := dk_42 (dk_at dksX2_digest_0 16 rfl rfl)
theorem dX2_digest_17 : decode cX2_digest 17 = .ok (.iload_n 1, 1) := dk_27 (dk_at dksX2_digest_0 17 rfl rfl)
theorem dX2_digest_18 : decode cX2_digest 18 = .ok (.invokevirtual 286, 3) := dk_182 1 30 (dk_at dksX2_digest_0 18 rfl rfl)
theorem dX2_digest_21 : decode cX2_digest 21 = .ok (.i2l, 1) := dk_133 (dk_at dksX2_digest_0 21 rfl rfl)
theorem dX2_digest_22 : decode cX2_digest 22 = .ok (.invokevirtual 294, 3) := dk_182 1 38 (dk_at dksX2_digest_1 0 rfl rfl)
theorem dX2_digest_25 : decode cX2_digest 25 = .ok (.iinc 1 1, 3) := dk_132 1 1 (dk_at dksX2_digest_1 3 rfl rfl)
theorem dX2_digest_28 : decode cX2_digest 28 = .ok (.goto (-19), 3) := dk_167 255 237 (dk_at dksX2_digest_1 6 rfl rfl)
theorem dX2_digest_31 : decode cX2_digest 31 = .ok (.aload_n 0, 1) := dk_42 (dk_at dksX2_digest_1 9 rfl rfl)
theorem dX2_digest_32 : decode cX2_digest 32 = .ok (.invokevirtual 302, 3) := dk_182 1 46 (dk_at dksX2_digest_1 10 rfl rfl)
theorem dX2_digest_35 : decode cX2_digest 35 = .ok (.iconst 0, 1) := dk_3 (dk_at dksX2_digest_1 13 rfl rfl)
theorem dX2_digest_36 : decode cX2_digest 36 = .ok (.istore_n 1, 1) := dk_60 (dk_at dksX2_digest_1 14 rfl rfl)
theorem dX2_digest_37 : decode cX2_digest 37 = .ok (.iload_n 1, 1) := dk_27 (dk_at dksX2_digest_1 15 rfl rfl)
theorem dX2_digest_38 : decode cX2_digest 38 = .ok (.bipush 6, 2) := dk_16 6 (dk_at dksX2_digest_1 16 rfl rfl)
theorem dX2_digest_40 : decode cX2_digest 40 = .ok (.if_icmp .ge 49, 3) := dk_162 0 49 (dk_at dksX2_digest_1 18 rfl rfl)
theorem dX2_digest_43 : decode cX2_digest 43 = .ok (.aload_n 0, 1) := dk_42 (dk_at dksX2_digest_1 21 rfl rfl)
theorem dX2_digest_44 : decode cX2_digest 44 = .ok (.aload_n 0, 1) := dk_42 (dk_at dksX2_digest_1 22 rfl rfl)
theorem dX2_digest_45 : decode cX2_digest 45 = .ok (.getfield 17, 3) := dk_180 0 17 (dk_at dksX2_digest_2 0 rfl rfl)
theorem dX2_digest_48 : decode cX2_digest 48 = .ok (.iload_n 1, 1) := dk_27 (dk_at dksX2_digest_2 3 rfl rfl)
theorem dX2_digest_49 : decode cX2_digest 49 = .ok (.iaload, 1) := dk_46 (dk_at dksX2_digest_2 4 rfl rfl)
theorem dX2_digest_50 : decode cX2_digest 50 = .ok (.i2l, 1) := dk_133 (dk_at dksX2_digest_2 5 rfl rfl)
theorem dX2_digest_51 : decode cX2_digest 51 = .ok (.invokevirtual 294, 3) := dk_182 1 38 (dk_at dksX2_digest_2 6 rfl rfl)
theorem dX2_digest_54 : decode cX2_digest 54 = .ok (.iconst 0, 1) := dk_3 (dk_at dksX2_digest_2 9 rfl rfl)
theorem dX2_digest_55 : decode cX2_digest 55 = .ok (.istore_n 2, 1) := dk_61 (dk_at dksX2_digest_2 10 rfl rfl)
theorem dX2_digest_56 : decode cX2_digest 56 = .ok (.iload_n 2, 1) := dk_28 (dk_at dksX2_digest_2 11 rfl rfl)
theorem dX2_digest_57 : decode cX2_digest 57 = .ok (.aload_n 0, 1) := dk_42 (dk_at dksX2_digest_2 12 rfl rfl)
theorem dX2_digest_58 : decode cX2_digest 58 = .ok (.getfield 17, 3) := dk_180 0 17 (dk_at dksX2_digest_2 13 rfl rfl)
theorem dX2_digest_61 : decode cX2_digest 61 = .ok (.iload_n 1, 1) := dk_27 (dk_at dksX2_digest_2 16 rfl rfl)
theorem dX2_digest_62 : decode cX2_digest 62 = .ok (.iaload, 1) := dk_46 (dk_at dksX2_digest_2 17 rfl rfl)
theorem dX2_digest_63 : decode cX2_digest 63 = .ok (.if_icmp .ge 20, 3) := dk_162 0 20 (dk_at dksX2_digest_2 18 rfl rfl)
theorem dX2_digest_66 : decode cX2_digest 66 = .ok (.aload_n 0, 1) := dk_42 (dk_at dksX2_digest_2 21 rfl rfl)
theorem dX2_digest_67 : decode cX2_digest 67 = .ok (.aload_n 0, 1) := dk_42 (dk_at dksX2_digest_2 22 rfl rfl)
theorem dX2_digest_68 : decode cX2_digest 68 = .ok (.iload_n 1, 1) := dk_27 (dk_at dksX2_digest_2 23 rfl rfl)
theorem dX2_digest_69 : decode cX2_digest 69 = .ok (.iload_n 2, 1) := dk_28 (dk_at dksX2_digest_3 0 rfl rfl)
theorem dX2_digest_70 : decode cX2_digest 70 = .ok (.invokevirtual 101, 3) := dk_182 0 101 (dk_at dksX2_digest_3 1 rfl rfl)
theorem dX2_digest_73 : decode cX2_digest 73 = .ok (.i2l, 1) := dk_133 (dk_at dksX2_digest_3 4 rfl rfl)
theorem dX2_digest_74 : decode cX2_digest 74 = .ok (.invokevirtual 294, 3) := dk_182 1 38 (dk_at dksX2_digest_3 5 rfl rfl)
theorem dX2_digest_77 : decode cX2_digest 77 = .ok (.iinc 2 1, 3) := dk_132 2 1 (dk_at dksX2_digest_3 8 rfl rfl)
theorem dX2_digest_80 : decode cX2_digest 80 = .ok (.goto (-24), 3) := dk_167 255 232 (dk_at dksX2_digest_3 11 rfl rfl)
theorem dX2_digest_83 : decode cX2_digest 83 = .ok (.iinc 1 1, 3) := dk_132 1 1 (dk_at dksX2_digest_3 14 rfl rfl)
theorem dX2_digest_86 : decode cX2_digest 86 = .ok (.goto (-49), 3) := dk_167 255 207 (dk_at dksX2_digest_3 17 rfl rfl)
theorem dX2_digest_89 : decode cX2_digest 89 = .ok (.iconst 0, 1) := dk_3 (dk_at dksX2_digest_3 20 rfl rfl)
theorem dX2_digest_90 : decode cX2_digest 90 = .ok (.istore_n 1, 1) := dk_60 (dk_at dksX2_digest_3 21 rfl rfl)
theorem dX2_digest_91 : decode cX2_digest 91 = .ok (.iload_n 1, 1) := dk_27 (dk_at dksX2_digest_3 22 rfl rfl)
theorem dX2_digest_92 : decode cX2_digest 92 = .ok (.iconst 4, 1) := dk_7 (dk_at dksX2_digest_3 23 rfl rfl)
theorem dX2_digest_93 : decode cX2_digest 93 = .ok (.if_icmp .ge 49, 3) := dk_162 0 49 (dk_at dksX2_digest_4 0 rfl rfl)
theorem dX2_digest_96 : decode cX2_digest 96 = .ok (.aload_n 0, 1) := dk_42 (dk_at dksX2_digest_4 3 rfl rfl)
theorem dX2_digest_97 : decode cX2_digest 97 = .ok (.aload_n 0, 1) := dk_42 (dk_at dksX2_digest_4 4 rfl rfl)
theorem dX2_digest_98 : decode cX2_digest 98 = .ok (.getfield 26, 3) := dk_180 0 26 (dk_at dksX2_digest_4 5 rfl rfl)
theorem dX2_digest_101 : decode cX2_digest 101 = .ok (.iload_n 1, 1) := dk_27 (dk_at dksX2_digest_4 8 rfl rfl)
theorem dX2_digest_102 : decode cX2_digest 102 = .ok (.iaload, 1) := dk_46 (dk_at dksX2_digest_4 9 rfl rfl)
theorem dX2_digest_103 : decode cX2_digest 103 = .ok (.i2l, 1) := dk_133 (dk_at dksX2_digest_4 10 rfl rfl)
theorem dX2_digest_104 : decode cX2_digest 104 = .ok (.invokevirtual 294, 3) := dk_182 1 38 (dk_at dksX2_digest_4 11 rfl rfl)
theorem dX2_digest_107 : decode cX2_digest 107 = .ok (.iconst 0, 1) := dk_3 (dk_at dksX2_digest_4 14 rfl rfl)
theorem dX2_digest_108 : decode cX2_digest 108 = .ok (.istore_n 2, 1) := dk_61 (dk_at dksX2_digest_4 15 rfl rfl)
theorem dX2_digest_109 : decode cX2_digest 109 = .ok (.iload_n 2, 1) := dk_28 (dk_at dksX2_digest_4 16 rfl rfl)
theorem dX2_digest_110 : decode cX2_digest 110 = .ok (.aload_n 0, 1) := dk_42 (dk_at dksX2_digest_4 17 rfl rfl)
theorem dX2_digest_111 : decode cX2_digest 111 = .ok (.getfield 26, 3) := dk_180 0 26 (dk_at dksX2_digest_4 18 rfl rfl)
theorem dX2_digest_114 : decode cX2_digest 114 = .ok (.iload_n 1, 1) := dk_27 (dk_at dksX2_digest_4 21 rfl rfl)
theorem dX2_digest_115 : decode cX2_digest 115 = .ok (.iaload, 1) := dk_46 (dk_at dksX2_digest_4 22 rfl rfl)
theorem dX2_digest_116 : decode cX2_digest 116 = .ok (.if_icmp .ge 20, 3) := dk_162 0 20 (dk_at dksX2_digest_5 0 rfl rfl)
theorem dX2_digest_119 : decode cX2_digest 119 = .ok (.aload_n 0, 1) := dk_42 (dk_at dksX2_digest_5 3 rfl rfl)
theorem dX2_digest_120 : decode cX2_digest 120 = .ok (.aload_n 0, 1) := dk_42 (dk_at dksX2_digest_5 4 rfl rfl)
theorem dX2_digest_121 : decode cX2_digest 121 = .ok (.iload_n 1, 1) := dk_27 (dk_at dksX2_digest_5 5 rfl rfl)
theorem dX2_digest_122 : decode cX2_digest 122 = .ok (.iload_n 2, 1) := dk_28 (dk_at dksX2_digest_5 6 rfl rfl)
theorem dX2_digest_123 : decode cX2_digest 123 = .ok (.invokevirtual 114, 3) := dk_182 0 114 (dk_at dksX2_digest_5 7 rfl rfl)
theorem dX2_digest_126 : decode cX2_digest 126 = .ok (.i2l, 1) := dk_133 (dk_at dksX2_digest_5 10 rfl rfl)
theorem dX2_digest_127 : decode cX2_digest 127 = .ok (.invokevirtual 294, 3) := dk_182 1 38 (dk_at dksX2_digest_5 11 rfl rfl)
theorem dX2_digest_130 : decode cX2_digest 130 = .ok (.iinc 2 1, 3) := dk_132 2 1 (dk_at dksX2_digest_5 14 rfl rfl)
theorem dX2_digest_133 : decode cX2_digest 133 = .ok (.goto (-24), 3) := dk_167 255 232 (dk_at dksX2_digest_5 17 rfl rfl)
theorem dX2_digest_136 : decode cX2_digest 136 = .ok (.iinc 1 1, 3) := dk_132 1 1 (dk_at dksX2_digest_5 20 rfl rfl)
theorem dX2_digest_139 : decode cX2_digest 139 = .ok (.goto (-48), 3) := dk_167 255 208 (dk_at dksX2_digest_6 0 rfl rfl)
theorem dX2_digest_142 : decode cX2_digest 142 = .ok (.aload_n 0, 1) := dk_42 (dk_at dksX2_digest_6 3 rfl rfl)
theorem dX2_digest_143 : decode cX2_digest 143 = .ok (.getfield 291, 3) := dk_180 1 35 (dk_at dksX2_digest_6 4 rfl rfl)
theorem dX2_digest_146 : decode cX2_digest 146 = .ok (.lreturn, 1) := dk_173 (dk_at dksX2_digest_6 7 rfl rfl)
abbrev cX2_mix : ByteArray := prog_11_method_93_code
def yX2_mix : MethodName := ⟨RX2, "mix", "(J)V"⟩
def dkwX2_mix_0 : List UInt8 := [42, 20, 1, 33, 42, 180, 1, 35, 105, 31, 97, 181, 1, 35, 177]
abbrev dktX2_mix_0 : List UInt8 := dkwX2_mix_0 ++ []
theorem dksX2_mix_0 : cX2_mix.data.toList.drop 0 = dktX2_mix_0 := by decide +kernel
theorem dX2_mix_0 : decode cX2_mix 0 = .ok (.aload_n 0, 1) := dk_42 (dk_at dksX2_mix_0 0 rfl rfl)
theorem dX2_mix_1 : decode cX2_mix 1 = .ok (.ldc2_w 289, 3) := dk_20 1 33 (dk_at dksX2_mix_0 1 rfl rfl)
theorem dX2_mix_4 : decode cX2_mix 4 = .ok (.aload_n 0, 1) := dk_42 (dk_at dksX2_mix_0 4 rfl rfl)
theorem dX2_mix_5 : decode cX2_mix 5 = .ok (.getfield 291, 3) := dk_180 1 35 (dk_at dksX2_mix_0 5 rfl rfl)
theorem dX2_mix_8 : decode cX2_mix 8 = .ok (.lmul, 1) := dk_105 (dk_at dksX2_mix_0 8 rfl rfl)
theorem dX2_mix_9 : decode cX2_mix 9 = .ok (.lload_n 1, 1) := dk_31 (dk_at dksX2_mix_0 9 rfl rfl)
theorem dX2_mix_10 : decode cX2_mix 10 = .ok (.ladd, 1) := dk_97 (dk_at dksX2_mix_0 10 rfl rfl)
theorem dX2_mix_11 : decode cX2_mix 11 = .ok (.putfield 291, 3) := dk_181 1 35 (dk_at dksX2_mix_0 11 rfl rfl)
theorem dX2_mix_14 : decode cX2_mix 14 = .ok (.return_, 1) := dk_177 (dk_at dksX2_mix_0 14 rfl rfl)
abbrev cX2_mixPiano : ByteArray := prog_11_method_94_code
def yX2_mixPiano : MethodName := ⟨RX2, "mixPiano", "()V"⟩
def dkwX2_mixPiano_3 : List UInt8 := [27, 46, 133, 167, 0, 6, 20, 1, 42, 182, 1, 38, 132, 1, 1, 167, 255, 222, 177]
abbrev dktX2_mixPiano_3 : List UInt8 := dkwX2_mixPiano_3 ++ []
def dkwX2_mixPiano_2 : List UInt8 := [167, 255, 221, 3, 60, 27, 6, 162, 0, 35, 42, 42, 180, 0, 51, 27, 51, 153, 0, 13, 42, 180, 0, 55]
abbrev dktX2_mixPiano_2 : List UInt8 := dkwX2_mixPiano_2 ++ dktX2_mixPiano_3
def dkwX2_mixPiano_1 : List UInt8 := [162, 0, 20, 42, 42, 27, 28, 182, 0, 177, 133, 182, 1, 38, 132, 2, 1, 167, 255, 237, 132, 1, 1]
abbrev dktX2_mixPiano_1 : List UInt8 := dkwX2_mixPiano_1 ++ dktX2_mixPiano_2
def dkwX2_mixPiano_0 : List UInt8 := [42, 42, 180, 0, 76, 133, 182, 1, 38, 3, 60, 27, 42, 180, 0, 142, 162, 0, 33, 3, 61, 28, 8]
abbrev dktX2_mixPiano_0 : List UInt8 := dkwX2_mixPiano_0 ++ dktX2_mixPiano_1
theorem dksX2_mixPiano_0 : cX2_mixPiano.data.toList.drop 0 = dktX2_mixPiano_0 := by decide +kernel
theorem dksX2_mixPiano_1 : cX2_mixPiano.data.toList.drop 23 = dktX2_mixPiano_1 := dk_seg dksX2_mixPiano_0 23 rfl rfl
theorem dksX2_mixPiano_2 : cX2_mixPiano.data.toList.drop 46 = dktX2_mixPiano_2 := dk_seg dksX2_mixPiano_1 23 rfl rfl
theorem dksX2_mixPiano_3 : cX2_mixPiano.data.toList.drop 70 = dktX2_mixPiano_3 := dk_seg dksX2_mixPiano_2 24 rfl rfl
theorem dX2_mixPiano_0 : decode cX2_mixPiano 0 = .ok (.aload_n 0, 1) := dk_42 (dk_at dksX2_mixPiano_0 0 rfl rfl)
theorem dX2_mixPiano_1 : decode cX2_mixPiano 1 = .ok (.aload_n 0, 1) := dk_42 (dk_at dksX2_mixPiano_0 1 rfl rfl)
theorem dX2_mixPiano_2 : decode cX2_mixPiano 2 = .ok (.getfield 76, 3) := dk_180 0 76 (dk_at dksX2_mixPiano_0 2 rfl rfl)
theorem dX2_mixPiano_5 : decode cX2_mixPiano 5 = .ok (.i2l, 1) := dk_133 (dk_at dksX2_mixPiano_0 5 rfl rfl)
theorem dX2_mixPiano_6 : decode cX2_mixPiano 6 = .ok (.invokevirtual 294, 3) := dk_182 1 38 (dk_at dksX2_mixPiano_0 6 rfl rfl)
theorem dX2_mixPiano_9 : decode cX2_mixPiano 9 = .ok (.iconst 0, 1) := dk_3 (dk_at dksX2_mixPiano_0 9 rfl rfl)
theorem dX2_mixPiano_10 : decode cX2_mixPiano 10 = .ok (.istore_n 1, 1) := dk_60 (dk_at dksX2_mixPiano_0 10 rfl rfl)
theorem dX2_mixPiano_11 : decode cX2_mixPiano 11 = .ok (.iload_n 1, 1) := dk_27 (dk_at dksX2_mixPiano_0 11 rfl rfl)
theorem dX2_mixPiano_12 : decode cX2_mixPiano 12 = .ok (.aload_n 0, 1) := dk_42 (dk_at dksX2_mixPiano_0 12 rfl rfl)
theorem dX2_mixPiano_13 : decode cX2_mixPiano 13 = .ok (.getfield 142, 3) := dk_180 0 142 (dk_at dksX2_mixPiano_0 13 rfl rfl)
theorem dX2_mixPiano_16 : decode cX2_mixPiano 16 = .ok (.if_icmp .ge 33, 3) := dk_162 0 33 (dk_at dksX2_mixPiano_0 16 rfl rfl)
theorem dX2_mixPiano_19 : decode cX2_mixPiano 19 = .ok (.iconst 0, 1) := dk_3 (dk_at dksX2_mixPiano_0 19 rfl rfl)
theorem dX2_mixPiano_20 : decode cX2_mixPiano 20 = .ok (.istore_n 2, 1) := dk_61 (dk_at dksX2_mixPiano_0 20 rfl rfl)
theorem dX2_mixPiano_21 : decode cX2_mixPiano 21 = .ok (.iload_n 2, 1) := dk_28 (dk_at dksX2_mixPiano_0 21 rfl rfl)
theorem dX2_mixPiano_22 : decode cX2_mixPiano 22 = .ok (.iconst 5, 1) := dk_8 (dk_at dksX2_mixPiano_0 22 rfl rfl)
theorem dX2_mixPiano_23 : decode cX2_mixPiano 23 = .ok (.if_icmp .ge 20, 3) := dk_162 0 20 (dk_at dksX2_mixPiano_1 0 rfl rfl)
theorem dX2_mixPiano_26 : decode cX2_mixPiano 26 = .ok (.aload_n 0, 1) := dk_42 (dk_at dksX2_mixPiano_1 3 rfl rfl)
theorem dX2_mixPiano_27 : decode cX2_mixPiano 27 = .ok (.aload_n 0, 1) := dk_42 (dk_at dksX2_mixPiano_1 4 rfl rfl)
theorem dX2_mixPiano_28 : decode cX2_mixPiano 28 = .ok (.iload_n 1, 1) := dk_27 (dk_at dksX2_mixPiano_1 5 rfl rfl)
theorem dX2_mixPiano_29 : decode cX2_mixPiano 29 = .ok (.iload_n 2, 1) := dk_28 (dk_at dksX2_mixPiano_1 6 rfl rfl)
theorem dX2_mixPiano_30 : decode cX2_mixPiano 30 = .ok (.invokevirtual 177, 3) := dk_182 0 177 (dk_at dksX2_mixPiano_1 7 rfl rfl)
theorem dX2_mixPiano_33 : decode cX2_mixPiano 33 = .ok (.i2l, 1) := dk_133 (dk_at dksX2_mixPiano_1 10 rfl rfl)
theorem dX2_mixPiano_34 : decode cX2_mixPiano 34 = .ok (.invokevirtual 294, 3) := dk_182 1 38 (dk_at dksX2_mixPiano_1 11 rfl rfl)
theorem dX2_mixPiano_37 : decode cX2_mixPiano 37 = .ok (.iinc 2 1, 3) := dk_132 2 1 (dk_at dksX2_mixPiano_1 14 rfl rfl)
theorem dX2_mixPiano_40 : decode cX2_mixPiano 40 = .ok (.goto (-19), 3) := dk_167 255 237 (dk_at dksX2_mixPiano_1 17 rfl rfl)
theorem dX2_mixPiano_43 : decode cX2_mixPiano 43 = .ok (.iinc 1 1, 3) := dk_132 1 1 (dk_at dksX2_mixPiano_1 20 rfl rfl)
theorem dX2_mixPiano_46 : decode cX2_mixPiano 46 = .ok (.goto (-35), 3) := dk_167 255 221 (dk_at dksX2_mixPiano_2 0 rfl rfl)
theorem dX2_mixPiano_49 : decode cX2_mixPiano 49 = .ok (.iconst 0, 1) := dk_3 (dk_at dksX2_mixPiano_2 3 rfl rfl)
theorem dX2_mixPiano_50 : decode cX2_mixPiano 50 = .ok (.istore_n 1, 1) := dk_60 (dk_at dksX2_mixPiano_2 4 rfl rfl)
theorem dX2_mixPiano_51 : decode cX2_mixPiano 51 = .ok (.iload_n 1, 1) := dk_27 (dk_at dksX2_mixPiano_2 5 rfl rfl)
theorem dX2_mixPiano_52 : decode cX2_mixPiano 52 = .ok (.iconst 3, 1) := dk_6 (dk_at dksX2_mixPiano_2 6 rfl rfl)
theorem dX2_mixPiano_53 : decode cX2_mixPiano 53 = .ok (.if_icmp .ge 35, 3) := dk_162 0 35 (dk_at dksX2_mixPiano_2 7 rfl rfl)
theorem dX2_mixPiano_56 : decode cX2_mixPiano 56 = .ok (.aload_n 0, 1) := dk_42 (dk_at dksX2_mixPiano_2 10 rfl rfl)
theorem dX2_mixPiano_57 : decode cX2_mixPiano 57 = .ok (.aload_n 0, 1) := dk_42 (dk_at dksX2_mixPiano_2 11 rfl rfl)
theorem dX2_mixPiano_58 : decode cX2_mixPiano 58 = .ok (.getfield 51, 3) := dk_180 0 51 (dk_at dksX2_mixPiano_2 12 rfl rfl)
theorem dX2_mixPiano_61 : decode cX2_mixPiano 61 = .ok (.iload_n 1, 1) := dk_27 (dk_at dksX2_mixPiano_2 15 rfl rfl)
theorem dX2_mixPiano_62 : decode cX2_mixPiano 62 = .ok (.baload, 1) := dk_51 (dk_at dksX2_mixPiano_2 16 rfl rfl)
theorem dX2_mixPiano_63 : decode cX2_mixPiano 63 = .ok (.ifCond .eq 13, 3) := dk_153 0 13 (dk_at dksX2_mixPiano_2 17 rfl rfl)
theorem dX2_mixPiano_66 : decode cX2_mixPiano 66 = .ok (.aload_n 0, 1) := dk_42 (dk_at dksX2_mixPiano_2 20 rfl rfl)
theorem dX2_mixPiano_67 : decode cX2_mixPiano 67 = .ok (.getfield 55, 3) := dk_180 0 55 (dk_at dksX2_mixPiano_2 21 rfl rfl)
theorem dX2_mixPiano_70 : decode cX2_mixPiano 70 = .ok (.iload_n 1, 1) := dk_27 (dk_at dksX2_mixPiano_3 0 rfl rfl)
theorem dX2_mixPiano_71 : decode cX2_mixPiano 71 = .ok (.iaload, 1) := dk_46 (dk_at dksX2_mixPiano_3 1 rfl rfl)
theorem dX2_mixPiano_72 : decode cX2_mixPiano 72 = .ok (.i2l, 1) := dk_133 (dk_at dksX2_mixPiano_3 2 rfl rfl)
theorem dX2_mixPiano_73 : decode cX2_mixPiano 73 = .ok (.goto 6, 3) := dk_167 0 6 (dk_at dksX2_mixPiano_3 3 rfl rfl)
theorem dX2_mixPiano_76 : decode cX2_mixPiano 76 = .ok (.ldc2_w 298, 3) := dk_20 1 42 (dk_at dksX2_mixPiano_3 6 rfl rfl)
theorem dX2_mixPiano_79 : decode cX2_mixPiano 79 = .ok (.invokevirtual 294, 3) := dk_182 1 38 (dk_at dksX2_mixPiano_3 9 rfl rfl)
theorem dX2_mixPiano_82 : decode cX2_mixPiano 82 = .ok (.iinc 1 1, 3) := dk_132 1 1 (dk_at dksX2_mixPiano_3 12 rfl rfl)
theorem dX2_mixPiano_85 : decode cX2_mixPiano 85 = .ok (.goto (-34), 3) := dk_167 255 222 (dk_at dksX2_mixPiano_3 15 rfl rfl)
theorem dX2_mixPiano_88 : decode cX2_mixPiano 88 = .ok (.return_, 1) := dk_177 (dk_at dksX2_mixPiano_3 18 rfl rfl)
theorem q84 : (Jvm.Cond.initialized "SandPianoModel") ∈ lw_all := lw_g (lw_at lw_m1 3 rfl) rfl
theorem q1054 : (Jvm.Cond.instantiable "SandPianoModel" (36 : Nat)) ∈ lw_all := lw_g (lw_at lw_m5 13 rfl) rfl
theorem q1056 : (Jvm.Cond.instanceMethod ({ cls := "SandPianoModel", name := "<init>", desc := "()V" } : Jvm.MethodName)) ∈ lw_all := lw_g (lw_at lw_m5 15 rfl) rfl
theorem q1057 : (Jvm.Cond.code ({ cls := "SandPianoModel", name := "<init>", desc := "()V" } : Jvm.MethodName) prog_11_method_1_code (2 : Nat) (Option.none : Option Jvm.ClassFile.FieldType)) ∈ lw_all := lw_g (lw_at lw_m5 16 rfl) rfl
theorem q1058 : (Jvm.Cond.methodLink "SandPianoModel" (1 : Nat) ({ cls := "java/lang/Object", name := "<init>", desc := "()V" } : Jvm.MethodName)) ∈ lw_all := lw_g (lw_at lw_m5 17 rfl) rfl
theorem q1059 : (Jvm.Cond.fieldLink "SandPianoModel" (80 : Nat) "SandPianoModel" "latest" "I") ∈ lw_all := lw_g (lw_at lw_m5 18 rfl) rfl
theorem q1060 : (Jvm.Cond.fieldLink "SandPianoModel" (7 : Nat) "SandPianoModel" "came" "[I") ∈ lw_all := lw_g (lw_at lw_m5 19 rfl) rfl
theorem q1061 : (Jvm.Cond.fieldLink "SandPianoModel" (87 : Nat) "SandPianoModel" "asked" "I") ∈ lw_all := lw_g (lw_at lw_m5 20 rfl) rfl
theorem q1062 : (Jvm.Cond.fieldLink "SandPianoModel" (90 : Nat) "SandPianoModel" "upper" "J") ∈ lw_all := lw_g (lw_at lw_m5 21 rfl) rfl
theorem q1063 : (Jvm.Cond.fieldLink "SandPianoModel" (13 : Nat) "SandPianoModel" "lower" "J") ∈ lw_all := lw_g (lw_at lw_m5 22 rfl) rfl
theorem q1064 : (Jvm.Cond.fieldLink "SandPianoModel" (17 : Nat) "SandPianoModel" "sizes" "[I") ∈ lw_all := lw_g (lw_at lw_m5 23 rfl) rfl
theorem q1065 : (Jvm.Cond.fieldLink "SandPianoModel" (20 : Nat) "SandPianoModel" "rows" "[I") ∈ lw_all := lw_g (lw_at lw_m5 24 rfl) rfl
theorem q1066 : (Jvm.Cond.fieldLink "SandPianoModel" (23 : Nat) "SandPianoModel" "copied" "[I") ∈ lw_all := lw_g (lw_at lw_m5 25 rfl) rfl
theorem q1067 : (Jvm.Cond.fieldLink "SandPianoModel" (26 : Nat) "SandPianoModel" "textSizes" "[I") ∈ lw_all := lw_g (lw_at lw_m5 26 rfl) rfl
theorem q1068 : (Jvm.Cond.fieldLink "SandPianoModel" (29 : Nat) "SandPianoModel" "bytes" "[B") ∈ lw_all := lw_g (lw_at lw_m5 27 rfl) rfl
theorem q1069 : (Jvm.Cond.fieldLink "SandPianoModel" (76 : Nat) "SandPianoModel" "spadeNow" "I") ∈ lw_all := lw_g (lw_at lw_m5 28 rfl) rfl
theorem q1070 : (Jvm.Cond.fieldLink "SandPianoModel" (142 : Nat) "SandPianoModel" "n" "I") ∈ lw_all := lw_g (lw_at lw_m5 29 rfl) rfl
theorem q1071 : (Jvm.Cond.fieldLink "SandPianoModel" (33 : Nat) "SandPianoModel" "kinds" "[I") ∈ lw_all := lw_g (lw_at lw_m5 30 rfl) rfl
theorem q1072 : (Jvm.Cond.fieldLink "SandPianoModel" (36 : Nat) "SandPianoModel" "strengths" "[I") ∈ lw_all := lw_g (lw_at lw_m5 31 rfl) rfl
theorem q1073 : (Jvm.Cond.fieldLink "SandPianoModel" (39 : Nat) "SandPianoModel" "pays" "[I") ∈ lw_all := lw_g (lw_at lw_m5 32 rfl) rfl
theorem q1074 : (Jvm.Cond.fieldLink "SandPianoModel" (111 : Nat) "SandPianoModel" "readAt" "I") ∈ lw_all := lw_g (lw_at lw_m5 33 rfl) rfl
theorem q1075 : (Jvm.Cond.fieldLink "SandPianoModel" (117 : Nat) "SandPianoModel" "readNumber" "I") ∈ lw_all := lw_g (lw_at lw_m5 34 rfl) rfl
theorem q1076 : (Jvm.Cond.fieldLink "SandPianoModel" (124 : Nat) "SandPianoModel" "readSpade" "I") ∈ lw_all := lw_g (lw_at lw_m5 35 rfl) rfl
theorem q1077 : (Jvm.Cond.fieldLink "SandPianoModel" (130 : Nat) "SandPianoModel" "readMany" "I") ∈ lw_all := lw_g (lw_at lw_m5 36 rfl) rfl
theorem q1078 : (Jvm.Cond.fieldLink "SandPianoModel" (42 : Nat) "SandPianoModel" "readKeys" "[I") ∈ lw_all := lw_g (lw_at lw_m5 37 rfl) rfl
theorem q1079 : (Jvm.Cond.fieldLink "SandPianoModel" (45 : Nat) "SandPianoModel" "pianos" "[I") ∈ lw_all := lw_g (lw_at lw_m5 38 rfl) rfl
theorem q1080 : (Jvm.Cond.fieldLink "SandPianoModel" (149 : Nat) "SandPianoModel" "deedMany" "I") ∈ lw_all := lw_g (lw_at lw_m5 39 rfl) rfl
theorem q1081 : (Jvm.Cond.fieldLink "SandPianoModel" (48 : Nat) "SandPianoModel" "deeds" "[I") ∈ lw_all := lw_g (lw_at lw_m5 40 rfl) rfl
theorem q1082 : (Jvm.Cond.fieldLink "SandPianoModel" (51 : Nat) "SandPianoModel" "isKept" "[Z") ∈ lw_all := lw_g (lw_at lw_m5 41 rfl) rfl
theorem q1083 : (Jvm.Cond.fieldLink "SandPianoModel" (55 : Nat) "SandPianoModel" "keptMany" "[I") ∈ lw_all := lw_g (lw_at lw_m5 42 rfl) rfl
theorem q1084 : (Jvm.Cond.fieldLink "SandPianoModel" (58 : Nat) "SandPianoModel" "keptSpade" "[I") ∈ lw_all := lw_g (lw_at lw_m5 43 rfl) rfl
theorem q1085 : (Jvm.Cond.fieldLink "SandPianoModel" (61 : Nat) "SandPianoModel" "keptNow" "[I") ∈ lw_all := lw_g (lw_at lw_m5 44 rfl) rfl
theorem q1086 : (Jvm.Cond.fieldLink "SandPianoModel" (64 : Nat) "SandPianoModel" "keptDeeds" "[I") ∈ lw_all := lw_g (lw_at lw_m5 45 rfl) rfl
theorem q1087 : (Jvm.Cond.fieldLink "SandPianoModel" (67 : Nat) "SandPianoModel" "tried" "[I") ∈ lw_all := lw_g (lw_at lw_m5 46 rfl) rfl
theorem q1088 : (Jvm.Cond.fieldLink "SandPianoModel" (70 : Nat) "SandPianoModel" "bestTried" "[I") ∈ lw_all := lw_g (lw_at lw_m5 47 rfl) rfl
theorem q1089 : (Jvm.Cond.fieldLink "SandPianoModel" (225 : Nat) "SandPianoModel" "bestMany" "I") ∈ lw_all := lw_g (lw_at lw_m5 48 rfl) rfl
theorem q1090 : (Jvm.Cond.fieldLink "SandPianoModel" (238 : Nat) "SandPianoModel" "bestEarned" "I") ∈ lw_all := lw_g (lw_at lw_m5 49 rfl) rfl
theorem q1091 : (Jvm.Cond.fieldLink "SandPianoModel" (247 : Nat) "SandPianoModel" "rowMany" "I") ∈ lw_all := lw_g (lw_at lw_m5 50 rfl) rfl
theorem q1092 : (Jvm.Cond.fieldLink "SandPianoModel" (244 : Nat) "SandPianoModel" "sandMany" "I") ∈ lw_all := lw_g (lw_at lw_m5 51 rfl) rfl
theorem q1093 : (Jvm.Cond.fieldLink "SandPianoModel" (73 : Nat) "SandPianoModel" "sands" "[I") ∈ lw_all := lw_g (lw_at lw_m5 52 rfl) rfl
theorem q1094 : (Jvm.Cond.fieldLink "SandPianoModel" (291 : Nat) "SandPianoModel" "hash" "J") ∈ lw_all := lw_g (lw_at lw_m5 53 rfl) rfl
theorem q1095 : (Jvm.Cond.lays "SandPianoModel" "SandPianoModel" "latest" "I") ∈ lw_all := lw_g (lw_at lw_m5 54 rfl) rfl
theorem q1096 : (Jvm.Cond.soleField "SandPianoModel" "latest") ∈ lw_all := lw_g (lw_at lw_m5 55 rfl) rfl
theorem q1097 : (Jvm.Cond.laysFinal "SandPianoModel" "SandPianoModel" "came" "[I") ∈ lw_all := lw_g (lw_at lw_m5 56 rfl) rfl
theorem q1098 : (Jvm.Cond.soleField "SandPianoModel" "came") ∈ lw_all := lw_g (lw_at lw_m5 57 rfl) rfl
theorem q1099 : (Jvm.Cond.lays "SandPianoModel" "SandPianoModel" "asked" "I") ∈ lw_all := lw_g (lw_at lw_m5 58 rfl) rfl
theorem q1100 : (Jvm.Cond.soleField "SandPianoModel" "asked") ∈ lw_all := lw_g (lw_at lw_m5 59 rfl) rfl
theorem q1101 : (Jvm.Cond.lays "SandPianoModel" "SandPianoModel" "upper" "J") ∈ lw_all := lw_g (lw_at lw_m5 60 rfl) rfl
theorem q1102 : (Jvm.Cond.soleField "SandPianoModel" "upper") ∈ lw_all := lw_g (lw_at lw_m5 61 rfl) rfl
theorem q1103 : (Jvm.Cond.lays "SandPianoModel" "SandPianoModel" "lower" "J") ∈ lw_all := lw_g (lw_at lw_m5 62 rfl) rfl
theorem q1104 : (Jvm.Cond.soleField "SandPianoModel" "lower") ∈ lw_all := lw_g (lw_at lw_m5 63 rfl) rfl
theorem q1105 : (Jvm.Cond.laysFinal "SandPianoModel" "SandPianoModel" "sizes" "[I") ∈ lw_all := lw_g (lw_at lw_m5 64 rfl) rfl
theorem q1106 : (Jvm.Cond.soleField "SandPianoModel" "sizes") ∈ lw_all := lw_g (lw_at lw_m5 65 rfl) rfl
theorem q1107 : (Jvm.Cond.laysFinal "SandPianoModel" "SandPianoModel" "rows" "[I") ∈ lw_all := lw_g (lw_at lw_m5 66 rfl) rfl
theorem q1108 : (Jvm.Cond.soleField "SandPianoModel" "rows") ∈ lw_all := lw_g (lw_at lw_m5 67 rfl) rfl
theorem q1109 : (Jvm.Cond.laysFinal "SandPianoModel" "SandPianoModel" "copied" "[I") ∈ lw_all := lw_g (lw_at lw_m5 68 rfl) rfl
theorem q1110 : (Jvm.Cond.soleField "SandPianoModel" "copied") ∈ lw_all := lw_g (lw_at lw_m5 69 rfl) rfl
theorem q1111 : (Jvm.Cond.laysFinal "SandPianoModel" "SandPianoModel" "textSizes" "[I") ∈ lw_all := lw_g (lw_at lw_m5 70 rfl) rfl
theorem q1112 : (Jvm.Cond.soleField "SandPianoModel" "textSizes") ∈ lw_all := lw_g (lw_at lw_m5 71 rfl) rfl
theorem q1113 : (Jvm.Cond.laysFinal "SandPianoModel" "SandPianoModel" "bytes" "[B") ∈ lw_all := lw_g (lw_at lw_m5 72 rfl) rfl
theorem q1114 : (Jvm.Cond.soleField "SandPianoModel" "bytes") ∈ lw_all := lw_g (lw_at lw_m5 73 rfl) rfl
theorem q1115 : (Jvm.Cond.lays "SandPianoModel" "SandPianoModel" "spadeNow" "I") ∈ lw_all := lw_g (lw_at lw_m5 74 rfl) rfl
theorem q1116 : (Jvm.Cond.soleField "SandPianoModel" "spadeNow") ∈ lw_all := lw_g (lw_at lw_m5 75 rfl) rfl
theorem q1117 : (Jvm.Cond.lays "SandPianoModel" "SandPianoModel" "n" "I") ∈ lw_all := lw_g (lw_at lw_m5 76 rfl) rfl
theorem q1118 : (Jvm.Cond.soleField "SandPianoModel" "n") ∈ lw_all := lw_g (lw_at lw_m5 77 rfl) rfl
theorem q1119 : (Jvm.Cond.laysFinal "SandPianoModel" "SandPianoModel" "kinds" "[I") ∈ lw_all := lw_g (lw_at lw_m5 78 rfl) rfl
theorem q1120 : (Jvm.Cond.soleField "SandPianoModel" "kinds") ∈ lw_all := lw_g (lw_at lw_m5 79 rfl) rfl
theorem q1121 : (Jvm.Cond.laysFinal "SandPianoModel" "SandPianoModel" "strengths" "[I") ∈ lw_all := lw_g (lw_at lw_m5 80 rfl) rfl
theorem q1122 : (Jvm.Cond.soleField "SandPianoModel" "strengths") ∈ lw_all := lw_g (lw_at lw_m5 81 rfl) rfl
theorem q1123 : (Jvm.Cond.laysFinal "SandPianoModel" "SandPianoModel" "pays" "[I") ∈ lw_all := lw_g (lw_at lw_m5 82 rfl) rfl
theorem q1124 : (Jvm.Cond.soleField "SandPianoModel" "pays") ∈ lw_all := lw_g (lw_at lw_m5 83 rfl) rfl
theorem q1125 : (Jvm.Cond.lays "SandPianoModel" "SandPianoModel" "readAt" "I") ∈ lw_all := lw_g (lw_at lw_m5 84 rfl) rfl
theorem q1126 : (Jvm.Cond.soleField "SandPianoModel" "readAt") ∈ lw_all := lw_g (lw_at lw_m5 85 rfl) rfl
theorem q1127 : (Jvm.Cond.lays "SandPianoModel" "SandPianoModel" "readNumber" "I") ∈ lw_all := lw_g (lw_at lw_m5 86 rfl) rfl
theorem q1128 : (Jvm.Cond.soleField "SandPianoModel" "readNumber") ∈ lw_all := lw_g (lw_at lw_m5 87 rfl) rfl
theorem q1129 : (Jvm.Cond.lays "SandPianoModel" "SandPianoModel" "readSpade" "I") ∈ lw_all := lw_g (lw_at lw_m5 88 rfl) rfl
theorem q1130 : (Jvm.Cond.soleField "SandPianoModel" "readSpade") ∈ lw_all := lw_g (lw_at lw_m5 89 rfl) rfl
theorem q1131 : (Jvm.Cond.lays "SandPianoModel" "SandPianoModel" "readMany" "I") ∈ lw_all := lw_g (lw_at lw_m5 90 rfl) rfl
theorem q1132 : (Jvm.Cond.soleField "SandPianoModel" "readMany") ∈ lw_all := lw_g (lw_at lw_m5 91 rfl) rfl
theorem q1133 : (Jvm.Cond.laysFinal "SandPianoModel" "SandPianoModel" "readKeys" "[I") ∈ lw_all := lw_g (lw_at lw_m5 92 rfl) rfl
theorem q1134 : (Jvm.Cond.soleField "SandPianoModel" "readKeys") ∈ lw_all := lw_g (lw_at lw_m5 93 rfl) rfl
theorem q1135 : (Jvm.Cond.laysFinal "SandPianoModel" "SandPianoModel" "pianos" "[I") ∈ lw_all := lw_g (lw_at lw_m5 94 rfl) rfl
theorem q1136 : (Jvm.Cond.soleField "SandPianoModel" "pianos") ∈ lw_all := lw_g (lw_at lw_m5 95 rfl) rfl
theorem q1137 : (Jvm.Cond.lays "SandPianoModel" "SandPianoModel" "deedMany" "I") ∈ lw_all := lw_g (lw_at lw_m5 96 rfl) rfl
theorem q1138 : (Jvm.Cond.soleField "SandPianoModel" "deedMany") ∈ lw_all := lw_g (lw_at lw_m5 97 rfl) rfl
theorem q1139 : (Jvm.Cond.laysFinal "SandPianoModel" "SandPianoModel" "deeds" "[I") ∈ lw_all := lw_g (lw_at lw_m5 98 rfl) rfl
theorem q1140 : (Jvm.Cond.soleField "SandPianoModel" "deeds") ∈ lw_all := lw_g (lw_at lw_m5 99 rfl) rfl
theorem q1141 : (Jvm.Cond.laysFinal "SandPianoModel" "SandPianoModel" "isKept" "[Z") ∈ lw_all := lw_g (lw_at lw_m5 100 rfl) rfl
theorem q1142 : (Jvm.Cond.soleField "SandPianoModel" "isKept") ∈ lw_all := lw_g (lw_at lw_m5 101 rfl) rfl
theorem q1143 : (Jvm.Cond.laysFinal "SandPianoModel" "SandPianoModel" "keptMany" "[I") ∈ lw_all := lw_g (lw_at lw_m5 102 rfl) rfl
theorem q1144 : (Jvm.Cond.soleField "SandPianoModel" "keptMany") ∈ lw_all := lw_g (lw_at lw_m5 103 rfl) rfl
theorem q1145 : (Jvm.Cond.laysFinal "SandPianoModel" "SandPianoModel" "keptSpade" "[I") ∈ lw_all := lw_g (lw_at lw_m5 104 rfl) rfl
theorem q1146 : (Jvm.Cond.soleField "SandPianoModel" "keptSpade") ∈ lw_all := lw_g (lw_at lw_m5 105 rfl) rfl
theorem q1147 : (Jvm.Cond.laysFinal "SandPianoModel" "SandPianoModel" "keptNow" "[I") ∈ lw_all := lw_g (lw_at lw_m5 106 rfl) rfl
theorem q1148 : (Jvm.Cond.soleField "SandPianoModel" "keptNow") ∈ lw_all := lw_g (lw_at lw_m5 107 rfl) rfl
theorem q1149 : (Jvm.Cond.laysFinal "SandPianoModel" "SandPianoModel" "keptDeeds" "[I") ∈ lw_all := lw_g (lw_at lw_m5 108 rfl) rfl
theorem q1150 : (Jvm.Cond.soleField "SandPianoModel" "keptDeeds") ∈ lw_all := lw_g (lw_at lw_m5 109 rfl) rfl
theorem q1151 : (Jvm.Cond.laysFinal "SandPianoModel" "SandPianoModel" "tried" "[I") ∈ lw_all := lw_g (lw_at lw_m5 110 rfl) rfl
theorem q1152 : (Jvm.Cond.soleField "SandPianoModel" "tried") ∈ lw_all := lw_g (lw_at lw_m5 111 rfl) rfl
theorem q1153 : (Jvm.Cond.laysFinal "SandPianoModel" "SandPianoModel" "bestTried" "[I") ∈ lw_all := lw_g (lw_at lw_m5 112 rfl) rfl
theorem q1154 : (Jvm.Cond.soleField "SandPianoModel" "bestTried") ∈ lw_all := lw_g (lw_at lw_m5 113 rfl) rfl
theorem q1155 : (Jvm.Cond.lays "SandPianoModel" "SandPianoModel" "bestMany" "I") ∈ lw_all := lw_g (lw_at lw_m5 114 rfl) rfl
theorem q1156 : (Jvm.Cond.soleField "SandPianoModel" "bestMany") ∈ lw_all := lw_g (lw_at lw_m5 115 rfl) rfl
theorem q1157 : (Jvm.Cond.lays "SandPianoModel" "SandPianoModel" "bestEarned" "I") ∈ lw_all := lw_g (lw_at lw_m5 116 rfl) rfl
theorem q1158 : (Jvm.Cond.soleField "SandPianoModel" "bestEarned") ∈ lw_all := lw_g (lw_at lw_m5 117 rfl) rfl
theorem q1159 : (Jvm.Cond.lays "SandPianoModel" "SandPianoModel" "rowMany" "I") ∈ lw_all := lw_g (lw_at lw_m5 118 rfl) rfl
theorem q1160 : (Jvm.Cond.soleField "SandPianoModel" "rowMany") ∈ lw_all := lw_g (lw_at lw_m5 119 rfl) rfl
theorem q1161 : (Jvm.Cond.lays "SandPianoModel" "SandPianoModel" "sandMany" "I") ∈ lw_all := lw_g (lw_at lw_m5 120 rfl) rfl
theorem q1162 : (Jvm.Cond.soleField "SandPianoModel" "sandMany") ∈ lw_all := lw_g (lw_at lw_m5 121 rfl) rfl
theorem q1163 : (Jvm.Cond.laysFinal "SandPianoModel" "SandPianoModel" "sands" "[I") ∈ lw_all := lw_g (lw_at lw_m5 122 rfl) rfl
theorem q1164 : (Jvm.Cond.soleField "SandPianoModel" "sands") ∈ lw_all := lw_g (lw_at lw_m5 123 rfl) rfl
theorem q1165 : (Jvm.Cond.lays "SandPianoModel" "SandPianoModel" "hash" "J") ∈ lw_all := lw_g (lw_at lw_m5 124 rfl) rfl
theorem q1166 : (Jvm.Cond.soleField "SandPianoModel" "hash") ∈ lw_all := lw_g (lw_at lw_m5 125 rfl) rfl
theorem q1167 : (Jvm.Cond.superclass "SandPianoModel" "java/lang/Object") ∈ lw_all := lw_g (lw_at lw_m5 126 rfl) rfl
theorem q1170 : (Jvm.Cond.instanceMethod ({ cls := "SandPianoModel", name := "finding", desc := "()I" } : Jvm.MethodName)) ∈ lw_all := lw_g (lw_at lw_m5 129 rfl) rfl
theorem q1171 : (Jvm.Cond.selects "SandPianoModel" ({ cls := "SandPianoModel", name := "finding", desc := "()I" } : Jvm.MethodName) ({ cls := "SandPianoModel", name := "finding", desc := "()I" } : Jvm.MethodName)) ∈ lw_all := lw_g (lw_at lw_m5 130 rfl) rfl
theorem q1172 : (Jvm.Cond.code ({ cls := "SandPianoModel", name := "finding", desc := "()I" } : Jvm.MethodName) prog_11_method_8_code (1 : Nat) (Option.some Jvm.ClassFile.FieldType.int)) ∈ lw_all := lw_g (lw_at lw_m5 131 rfl) rfl
theorem q1174 : (Jvm.Cond.instanceMethod ({ cls := "SandPianoModel", name := "findings", desc := "(I)I" } : Jvm.MethodName)) ∈ lw_all := lw_g (lw_at lw_m5 133 rfl) rfl
theorem q1175 : (Jvm.Cond.selects "SandPianoModel" ({ cls := "SandPianoModel", name := "findings", desc := "(I)I" } : Jvm.MethodName) ({ cls := "SandPianoModel", name := "findings", desc := "(I)I" } : Jvm.MethodName)) ∈ lw_all := lw_g (lw_at lw_m5 134 rfl) rfl
theorem q1176 : (Jvm.Cond.code ({ cls := "SandPianoModel", name := "findings", desc := "(I)I" } : Jvm.MethodName) prog_11_method_9_code (2 : Nat) (Option.some Jvm.ClassFile.FieldType.int)) ∈ lw_all := lw_g (lw_at lw_m5 135 rfl) rfl
theorem q1177 : (Jvm.Cond.methodLink "SandPianoModel" (83 : Nat) ({ cls := "SandPianoModel", name := "in", desc := "(III)Z" } : Jvm.MethodName)) ∈ lw_all := lw_g (lw_at lw_m5 136 rfl) rfl
theorem q1178 : (Jvm.Cond.static ({ cls := "SandPianoModel", name := "in", desc := "(III)Z" } : Jvm.MethodName)) ∈ lw_all := lw_g (lw_at lw_m5 137 rfl) rfl
theorem q1179 : (Jvm.Cond.code ({ cls := "SandPianoModel", name := "in", desc := "(III)Z" } : Jvm.MethodName) prog_11_method_2_code (3 : Nat) (Option.some Jvm.ClassFile.FieldType.boolean)) ∈ lw_all := lw_g (lw_at lw_m5 138 rfl) rfl
theorem q1181 : (Jvm.Cond.instanceMethod ({ cls := "SandPianoModel", name := "asked", desc := "()I" } : Jvm.MethodName)) ∈ lw_all := lw_g (lw_at lw_m5 140 rfl) rfl
theorem q1182 : (Jvm.Cond.selects "SandPianoModel" ({ cls := "SandPianoModel", name := "asked", desc := "()I" } : Jvm.MethodName) ({ cls := "SandPianoModel", name := "asked", desc := "()I" } : Jvm.MethodName)) ∈ lw_all := lw_g (lw_at lw_m5 141 rfl) rfl
theorem q1183 : (Jvm.Cond.code ({ cls := "SandPianoModel", name := "asked", desc := "()I" } : Jvm.MethodName) prog_11_method_11_code (1 : Nat) (Option.some Jvm.ClassFile.FieldType.int)) ∈ lw_all := lw_g (lw_at lw_m5 142 rfl) rfl
theorem q1185 : (Jvm.Cond.instanceMethod ({ cls := "SandPianoModel", name := "upper", desc := "()J" } : Jvm.MethodName)) ∈ lw_all := lw_g (lw_at lw_m5 144 rfl) rfl
theorem q1186 : (Jvm.Cond.selects "SandPianoModel" ({ cls := "SandPianoModel", name := "upper", desc := "()J" } : Jvm.MethodName) ({ cls := "SandPianoModel", name := "upper", desc := "()J" } : Jvm.MethodName)) ∈ lw_all := lw_g (lw_at lw_m5 145 rfl) rfl
theorem q1187 : (Jvm.Cond.code ({ cls := "SandPianoModel", name := "upper", desc := "()J" } : Jvm.MethodName) prog_11_method_13_code (1 : Nat) (Option.some Jvm.ClassFile.FieldType.long)) ∈ lw_all := lw_g (lw_at lw_m5 146 rfl) rfl
theorem q1189 : (Jvm.Cond.instanceMethod ({ cls := "SandPianoModel", name := "lower", desc := "()J" } : Jvm.MethodName)) ∈ lw_all := lw_g (lw_at lw_m5 148 rfl) rfl
theorem q1190 : (Jvm.Cond.selects "SandPianoModel" ({ cls := "SandPianoModel", name := "lower", desc := "()J" } : Jvm.MethodName) ({ cls := "SandPianoModel", name := "lower", desc := "()J" } : Jvm.MethodName)) ∈ lw_all := lw_g (lw_at lw_m5 149 rfl) rfl
theorem q1191 : (Jvm.Cond.code ({ cls := "SandPianoModel", name := "lower", desc := "()J" } : Jvm.MethodName) prog_11_method_14_code (1 : Nat) (Option.some Jvm.ClassFile.FieldType.long)) ∈ lw_all := lw_g (lw_at lw_m5 150 rfl) rfl
theorem q1193 : (Jvm.Cond.instanceMethod ({ cls := "SandPianoModel", name := "row", desc := "(II)I" } : Jvm.MethodName)) ∈ lw_all := lw_g (lw_at lw_m5 152 rfl) rfl
theorem q1194 : (Jvm.Cond.selects "SandPianoModel" ({ cls := "SandPianoModel", name := "row", desc := "(II)I" } : Jvm.MethodName) ({ cls := "SandPianoModel", name := "row", desc := "(II)I" } : Jvm.MethodName)) ∈ lw_all := lw_g (lw_at lw_m5 153 rfl) rfl
theorem q1195 : (Jvm.Cond.code ({ cls := "SandPianoModel", name := "row", desc := "(II)I" } : Jvm.MethodName) prog_11_method_17_code (4 : Nat) (Option.some Jvm.ClassFile.FieldType.int)) ∈ lw_all := lw_g (lw_at lw_m5 154 rfl) rfl
theorem q1196 : (Jvm.Cond.methodLink "SandPianoModel" (93 : Nat) ({ cls := "SandPianoModel", name := "isRow", desc := "(I)Z" } : Jvm.MethodName)) ∈ lw_all := lw_g (lw_at lw_m5 155 rfl) rfl
theorem q1197 : (Jvm.Cond.static ({ cls := "SandPianoModel", name := "isRow", desc := "(I)Z" } : Jvm.MethodName)) ∈ lw_all := lw_g (lw_at lw_m5 156 rfl) rfl
theorem q1198 : (Jvm.Cond.code ({ cls := "SandPianoModel", name := "isRow", desc := "(I)Z" } : Jvm.MethodName) prog_11_method_15_code (1 : Nat) (Option.some Jvm.ClassFile.FieldType.boolean)) ∈ lw_all := lw_g (lw_at lw_m5 157 rfl) rfl
theorem q1199 : (Jvm.Cond.methodLink "SandPianoModel" (97 : Nat) ({ cls := "SandPianoModel", name := "meets", desc := "(I)I" } : Jvm.MethodName)) ∈ lw_all := lw_g (lw_at lw_m5 158 rfl) rfl
theorem q1200 : (Jvm.Cond.privateMethod ({ cls := "SandPianoModel", name := "meets", desc := "(I)I" } : Jvm.MethodName)) ∈ lw_tbl := lw_at lw_m5 159 rfl
theorem q1201 : (Jvm.Cond.instanceMethod ({ cls := "SandPianoModel", name := "meets", desc := "(I)I" } : Jvm.MethodName)) ∈ lw_all := lw_g (lw_at lw_m5 160 rfl) rfl
theorem q1202 : (Jvm.Cond.code ({ cls := "SandPianoModel", name := "meets", desc := "(I)I" } : Jvm.MethodName) prog_11_method_7_code (2 : Nat) (Option.some Jvm.ClassFile.FieldType.int)) ∈ lw_all := lw_g (lw_at lw_m5 161 rfl) rfl
theorem q1204 : (Jvm.Cond.instanceMethod ({ cls := "SandPianoModel", name := "lay", desc := "(III)I" } : Jvm.MethodName)) ∈ lw_all := lw_g (lw_at lw_m5 163 rfl) rfl
theorem q1205 : (Jvm.Cond.selects "SandPianoModel" ({ cls := "SandPianoModel", name := "lay", desc := "(III)I" } : Jvm.MethodName) ({ cls := "SandPianoModel", name := "lay", desc := "(III)I" } : Jvm.MethodName)) ∈ lw_all := lw_g (lw_at lw_m5 164 rfl) rfl
theorem q1206 : (Jvm.Cond.code ({ cls := "SandPianoModel", name := "lay", desc := "(III)I" } : Jvm.MethodName) prog_11_method_18_code (5 : Nat) (Option.some Jvm.ClassFile.FieldType.int)) ∈ lw_all := lw_g (lw_at lw_m5 165 rfl) rfl
theorem q1207 : (Jvm.Cond.methodLink "SandPianoModel" (101 : Nat) ({ cls := "SandPianoModel", name := "rowAt", desc := "(II)I" } : Jvm.MethodName)) ∈ lw_all := lw_g (lw_at lw_m5 166 rfl) rfl
theorem q1208 : (Jvm.Cond.privateMethod ({ cls := "SandPianoModel", name := "rowAt", desc := "(II)I" } : Jvm.MethodName)) ∈ lw_tbl := lw_at lw_m5 167 rfl
theorem q1209 : (Jvm.Cond.instanceMethod ({ cls := "SandPianoModel", name := "rowAt", desc := "(II)I" } : Jvm.MethodName)) ∈ lw_all := lw_g (lw_at lw_m5 168 rfl) rfl
theorem q1210 : (Jvm.Cond.code ({ cls := "SandPianoModel", name := "rowAt", desc := "(II)I" } : Jvm.MethodName) prog_11_method_16_code (3 : Nat) (Option.some Jvm.ClassFile.FieldType.int)) ∈ lw_all := lw_g (lw_at lw_m5 169 rfl) rfl
theorem q1211 : (Jvm.Cond.methodLink "SandPianoModel" (105 : Nat) ({ cls := "SandPianoModel", name := "tells", desc := "(II)I" } : Jvm.MethodName)) ∈ lw_all := lw_g (lw_at lw_m5 170 rfl) rfl
theorem q1212 : (Jvm.Cond.privateMethod ({ cls := "SandPianoModel", name := "tells", desc := "(II)I" } : Jvm.MethodName)) ∈ lw_tbl := lw_at lw_m5 171 rfl
theorem q1213 : (Jvm.Cond.instanceMethod ({ cls := "SandPianoModel", name := "tells", desc := "(II)I" } : Jvm.MethodName)) ∈ lw_all := lw_g (lw_at lw_m5 172 rfl) rfl
theorem q1214 : (Jvm.Cond.code ({ cls := "SandPianoModel", name := "tells", desc := "(II)I" } : Jvm.MethodName) prog_11_method_10_code (3 : Nat) (Option.some Jvm.ClassFile.FieldType.int)) ∈ lw_all := lw_g (lw_at lw_m5 173 rfl) rfl
theorem q1216 : (Jvm.Cond.instanceMethod ({ cls := "SandPianoModel", name := "at", desc := "(II)I" } : Jvm.MethodName)) ∈ lw_all := lw_g (lw_at lw_m5 175 rfl) rfl
theorem q1217 : (Jvm.Cond.selects "SandPianoModel" ({ cls := "SandPianoModel", name := "at", desc := "(II)I" } : Jvm.MethodName) ({ cls := "SandPianoModel", name := "at", desc := "(II)I" } : Jvm.MethodName)) ∈ lw_all := lw_g (lw_at lw_m5 176 rfl) rfl
theorem q1218 : (Jvm.Cond.code ({ cls := "SandPianoModel", name := "at", desc := "(II)I" } : Jvm.MethodName) prog_11_method_19_code (3 : Nat) (Option.some Jvm.ClassFile.FieldType.int)) ∈ lw_all := lw_g (lw_at lw_m5 177 rfl) rfl
theorem q1220 : (Jvm.Cond.instanceMethod ({ cls := "SandPianoModel", name := "tear", desc := "(I)I" } : Jvm.MethodName)) ∈ lw_all := lw_g (lw_at lw_m5 179 rfl) rfl
theorem q1221 : (Jvm.Cond.selects "SandPianoModel" ({ cls := "SandPianoModel", name := "tear", desc := "(I)I" } : Jvm.MethodName) ({ cls := "SandPianoModel", name := "tear", desc := "(I)I" } : Jvm.MethodName)) ∈ lw_all := lw_g (lw_at lw_m5 180 rfl) rfl
theorem q1222 : (Jvm.Cond.code ({ cls := "SandPianoModel", name := "tear", desc := "(I)I" } : Jvm.MethodName) prog_11_method_20_code (2 : Nat) (Option.some Jvm.ClassFile.FieldType.int)) ∈ lw_all := lw_g (lw_at lw_m5 181 rfl) rfl
theorem q1224 : (Jvm.Cond.instanceMethod ({ cls := "SandPianoModel", name := "copy", desc := "(IIIII)I" } : Jvm.MethodName)) ∈ lw_all := lw_g (lw_at lw_m5 183 rfl) rfl
theorem q1225 : (Jvm.Cond.selects "SandPianoModel" ({ cls := "SandPianoModel", name := "copy", desc := "(IIIII)I" } : Jvm.MethodName) ({ cls := "SandPianoModel", name := "copy", desc := "(IIIII)I" } : Jvm.MethodName)) ∈ lw_all := lw_g (lw_at lw_m5 184 rfl) rfl
theorem q1226 : (Jvm.Cond.code ({ cls := "SandPianoModel", name := "copy", desc := "(IIIII)I" } : Jvm.MethodName) prog_11_method_21_code (7 : Nat) (Option.some Jvm.ClassFile.FieldType.int)) ∈ lw_all := lw_g (lw_at lw_m5 185 rfl) rfl
theorem q1228 : (Jvm.Cond.instanceMethod ({ cls := "SandPianoModel", name := "mean", desc := "(I)I" } : Jvm.MethodName)) ∈ lw_all := lw_g (lw_at lw_m5 187 rfl) rfl
theorem q1229 : (Jvm.Cond.selects "SandPianoModel" ({ cls := "SandPianoModel", name := "mean", desc := "(I)I" } : Jvm.MethodName) ({ cls := "SandPianoModel", name := "mean", desc := "(I)I" } : Jvm.MethodName)) ∈ lw_all := lw_g (lw_at lw_m5 188 rfl) rfl
theorem q1230 : (Jvm.Cond.code ({ cls := "SandPianoModel", name := "mean", desc := "(I)I" } : Jvm.MethodName) prog_11_method_22_code (5 : Nat) (Option.some Jvm.ClassFile.FieldType.int)) ∈ lw_all := lw_g (lw_at lw_m5 189 rfl) rfl
theorem q1232 : (Jvm.Cond.instanceMethod ({ cls := "SandPianoModel", name := "text", desc := "(II)I" } : Jvm.MethodName)) ∈ lw_all := lw_g (lw_at lw_m5 191 rfl) rfl
theorem q1233 : (Jvm.Cond.selects "SandPianoModel" ({ cls := "SandPianoModel", name := "text", desc := "(II)I" } : Jvm.MethodName) ({ cls := "SandPianoModel", name := "text", desc := "(II)I" } : Jvm.MethodName)) ∈ lw_all := lw_g (lw_at lw_m5 192 rfl) rfl
theorem q1234 : (Jvm.Cond.code ({ cls := "SandPianoModel", name := "text", desc := "(II)I" } : Jvm.MethodName) prog_11_method_24_code (4 : Nat) (Option.some Jvm.ClassFile.FieldType.int)) ∈ lw_all := lw_g (lw_at lw_m5 193 rfl) rfl
theorem q1235 : (Jvm.Cond.methodLink "SandPianoModel" (108 : Nat) ({ cls := "SandPianoModel", name := "isText", desc := "(I)Z" } : Jvm.MethodName)) ∈ lw_all := lw_g (lw_at lw_m5 194 rfl) rfl
theorem q1236 : (Jvm.Cond.static ({ cls := "SandPianoModel", name := "isText", desc := "(I)Z" } : Jvm.MethodName)) ∈ lw_all := lw_g (lw_at lw_m5 195 rfl) rfl
theorem q1237 : (Jvm.Cond.code ({ cls := "SandPianoModel", name := "isText", desc := "(I)Z" } : Jvm.MethodName) prog_11_method_23_code (1 : Nat) (Option.some Jvm.ClassFile.FieldType.boolean)) ∈ lw_all := lw_g (lw_at lw_m5 196 rfl) rfl
theorem q1239 : (Jvm.Cond.instanceMethod ({ cls := "SandPianoModel", name := "put", desc := "(III)I" } : Jvm.MethodName)) ∈ lw_all := lw_g (lw_at lw_m5 198 rfl) rfl
theorem q1240 : (Jvm.Cond.selects "SandPianoModel" ({ cls := "SandPianoModel", name := "put", desc := "(III)I" } : Jvm.MethodName) ({ cls := "SandPianoModel", name := "put", desc := "(III)I" } : Jvm.MethodName)) ∈ lw_all := lw_g (lw_at lw_m5 199 rfl) rfl
theorem q1241 : (Jvm.Cond.code ({ cls := "SandPianoModel", name := "put", desc := "(III)I" } : Jvm.MethodName) prog_11_method_25_code (5 : Nat) (Option.some Jvm.ClassFile.FieldType.int)) ∈ lw_all := lw_g (lw_at lw_m5 200 rfl) rfl
theorem q1243 : (Jvm.Cond.instanceMethod ({ cls := "SandPianoModel", name := "fault", desc := "(I)I" } : Jvm.MethodName)) ∈ lw_all := lw_g (lw_at lw_m5 202 rfl) rfl
theorem q1244 : (Jvm.Cond.selects "SandPianoModel" ({ cls := "SandPianoModel", name := "fault", desc := "(I)I" } : Jvm.MethodName) ({ cls := "SandPianoModel", name := "fault", desc := "(I)I" } : Jvm.MethodName)) ∈ lw_all := lw_g (lw_at lw_m5 203 rfl) rfl
theorem q1245 : (Jvm.Cond.code ({ cls := "SandPianoModel", name := "fault", desc := "(I)I" } : Jvm.MethodName) prog_11_method_33_code (2 : Nat) (Option.some Jvm.ClassFile.FieldType.int)) ∈ lw_all := lw_g (lw_at lw_m5 204 rfl) rfl
theorem q1246 : (Jvm.Cond.methodLink "SandPianoModel" (139 : Nat) ({ cls := "SandPianoModel", name := "faultOf", desc := "(I)I" } : Jvm.MethodName)) ∈ lw_all := lw_g (lw_at lw_m5 205 rfl) rfl
theorem q1247 : (Jvm.Cond.privateMethod ({ cls := "SandPianoModel", name := "faultOf", desc := "(I)I" } : Jvm.MethodName)) ∈ lw_tbl := lw_at lw_m5 206 rfl
theorem q1248 : (Jvm.Cond.instanceMethod ({ cls := "SandPianoModel", name := "faultOf", desc := "(I)I" } : Jvm.MethodName)) ∈ lw_all := lw_g (lw_at lw_m5 207 rfl) rfl
theorem q1249 : (Jvm.Cond.code ({ cls := "SandPianoModel", name := "faultOf", desc := "(I)I" } : Jvm.MethodName) prog_11_method_32_code (2 : Nat) (Option.some Jvm.ClassFile.FieldType.int)) ∈ lw_all := lw_g (lw_at lw_m5 208 rfl) rfl
theorem q1250 : (Jvm.Cond.methodLink "SandPianoModel" (114 : Nat) ({ cls := "SandPianoModel", name := "byteAt", desc := "(II)I" } : Jvm.MethodName)) ∈ lw_all := lw_g (lw_at lw_m5 209 rfl) rfl
theorem q1251 : (Jvm.Cond.privateMethod ({ cls := "SandPianoModel", name := "byteAt", desc := "(II)I" } : Jvm.MethodName)) ∈ lw_tbl := lw_at lw_m5 210 rfl
theorem q1252 : (Jvm.Cond.instanceMethod ({ cls := "SandPianoModel", name := "byteAt", desc := "(II)I" } : Jvm.MethodName)) ∈ lw_all := lw_g (lw_at lw_m5 211 rfl) rfl
theorem q1253 : (Jvm.Cond.code ({ cls := "SandPianoModel", name := "byteAt", desc := "(II)I" } : Jvm.MethodName) prog_11_method_26_code (3 : Nat) (Option.some Jvm.ClassFile.FieldType.int)) ∈ lw_all := lw_g (lw_at lw_m5 212 rfl) rfl
theorem q1254 : (Jvm.Cond.methodLink "SandPianoModel" (133 : Nat) ({ cls := "SandPianoModel", name := "readsSpade", desc := "(I)Z" } : Jvm.MethodName)) ∈ lw_all := lw_g (lw_at lw_m5 213 rfl) rfl
theorem q1255 : (Jvm.Cond.privateMethod ({ cls := "SandPianoModel", name := "readsSpade", desc := "(I)Z" } : Jvm.MethodName)) ∈ lw_tbl := lw_at lw_m5 214 rfl
theorem q1256 : (Jvm.Cond.instanceMethod ({ cls := "SandPianoModel", name := "readsSpade", desc := "(I)Z" } : Jvm.MethodName)) ∈ lw_all := lw_g (lw_at lw_m5 215 rfl) rfl
theorem q1257 : (Jvm.Cond.code ({ cls := "SandPianoModel", name := "readsSpade", desc := "(I)Z" } : Jvm.MethodName) prog_11_method_30_code (3 : Nat) (Option.some Jvm.ClassFile.FieldType.boolean)) ∈ lw_all := lw_g (lw_at lw_m5 216 rfl) rfl
theorem q1258 : (Jvm.Cond.methodLink "SandPianoModel" (120 : Nat) ({ cls := "SandPianoModel", name := "figure", desc := "(II)Z" } : Jvm.MethodName)) ∈ lw_all := lw_g (lw_at lw_m5 217 rfl) rfl
theorem q1259 : (Jvm.Cond.privateMethod ({ cls := "SandPianoModel", name := "figure", desc := "(II)Z" } : Jvm.MethodName)) ∈ lw_tbl := lw_at lw_m5 218 rfl
theorem q1260 : (Jvm.Cond.instanceMethod ({ cls := "SandPianoModel", name := "figure", desc := "(II)Z" } : Jvm.MethodName)) ∈ lw_all := lw_g (lw_at lw_m5 219 rfl) rfl
theorem q1261 : (Jvm.Cond.code ({ cls := "SandPianoModel", name := "figure", desc := "(II)Z" } : Jvm.MethodName) prog_11_method_29_code (4 : Nat) (Option.some Jvm.ClassFile.FieldType.boolean)) ∈ lw_all := lw_g (lw_at lw_m5 220 rfl) rfl
theorem q1262 : (Jvm.Cond.methodLink "SandPianoModel" (136 : Nat) ({ cls := "SandPianoModel", name := "readsKey", desc := "(I)Z" } : Jvm.MethodName)) ∈ lw_all := lw_g (lw_at lw_m5 221 rfl) rfl
theorem q1263 : (Jvm.Cond.privateMethod ({ cls := "SandPianoModel", name := "readsKey", desc := "(I)Z" } : Jvm.MethodName)) ∈ lw_tbl := lw_at lw_m5 222 rfl
theorem q1264 : (Jvm.Cond.instanceMethod ({ cls := "SandPianoModel", name := "readsKey", desc := "(I)Z" } : Jvm.MethodName)) ∈ lw_all := lw_g (lw_at lw_m5 223 rfl) rfl
theorem q1265 : (Jvm.Cond.code ({ cls := "SandPianoModel", name := "readsKey", desc := "(I)Z" } : Jvm.MethodName) prog_11_method_31_code (5 : Nat) (Option.some Jvm.ClassFile.FieldType.boolean)) ∈ lw_all := lw_g (lw_at lw_m5 224 rfl) rfl
theorem q1266 : (Jvm.Cond.methodLink "SandPianoModel" (127 : Nat) ({ cls := "SandPianoModel", name := "kindOf", desc := "(I)I" } : Jvm.MethodName)) ∈ lw_all := lw_g (lw_at lw_m5 225 rfl) rfl
theorem q1267 : (Jvm.Cond.static ({ cls := "SandPianoModel", name := "kindOf", desc := "(I)I" } : Jvm.MethodName)) ∈ lw_all := lw_g (lw_at lw_m5 226 rfl) rfl
theorem q1268 : (Jvm.Cond.code ({ cls := "SandPianoModel", name := "kindOf", desc := "(I)I" } : Jvm.MethodName) prog_11_method_28_code (1 : Nat) (Option.some Jvm.ClassFile.FieldType.int)) ∈ lw_all := lw_g (lw_at lw_m5 227 rfl) rfl
theorem q1270 : (Jvm.Cond.instanceMethod ({ cls := "SandPianoModel", name := "piano", desc := "(I)I" } : Jvm.MethodName)) ∈ lw_all := lw_g (lw_at lw_m5 229 rfl) rfl
theorem q1271 : (Jvm.Cond.selects "SandPianoModel" ({ cls := "SandPianoModel", name := "piano", desc := "(I)I" } : Jvm.MethodName) ({ cls := "SandPianoModel", name := "piano", desc := "(I)I" } : Jvm.MethodName)) ∈ lw_all := lw_g (lw_at lw_m5 230 rfl) rfl
theorem q1272 : (Jvm.Cond.code ({ cls := "SandPianoModel", name := "piano", desc := "(I)I" } : Jvm.MethodName) prog_11_method_34_code (3 : Nat) (Option.some Jvm.ClassFile.FieldType.int)) ∈ lw_all := lw_g (lw_at lw_m5 231 rfl) rfl
theorem q1273 : (Jvm.Cond.methodLink "SandPianoModel" (145 : Nat) ({ cls := "SandPianoModel", name := "place", desc := "(III)V" } : Jvm.MethodName)) ∈ lw_all := lw_g (lw_at lw_m5 232 rfl) rfl
theorem q1274 : (Jvm.Cond.privateMethod ({ cls := "SandPianoModel", name := "place", desc := "(III)V" } : Jvm.MethodName)) ∈ lw_tbl := lw_at lw_m5 233 rfl
theorem q1275 : (Jvm.Cond.instanceMethod ({ cls := "SandPianoModel", name := "place", desc := "(III)V" } : Jvm.MethodName)) ∈ lw_all := lw_g (lw_at lw_m5 234 rfl) rfl
theorem q1276 : (Jvm.Cond.code ({ cls := "SandPianoModel", name := "place", desc := "(III)V" } : Jvm.MethodName) prog_11_method_37_code (4 : Nat) (Option.none : Option Jvm.ClassFile.FieldType)) ∈ lw_all := lw_g (lw_at lw_m5 235 rfl) rfl
theorem q1278 : (Jvm.Cond.instanceMethod ({ cls := "SandPianoModel", name := "key", desc := "(II)I" } : Jvm.MethodName)) ∈ lw_all := lw_g (lw_at lw_m5 237 rfl) rfl
theorem q1279 : (Jvm.Cond.selects "SandPianoModel" ({ cls := "SandPianoModel", name := "key", desc := "(II)I" } : Jvm.MethodName) ({ cls := "SandPianoModel", name := "key", desc := "(II)I" } : Jvm.MethodName)) ∈ lw_all := lw_g (lw_at lw_m5 238 rfl) rfl
theorem q1280 : (Jvm.Cond.code ({ cls := "SandPianoModel", name := "key", desc := "(II)I" } : Jvm.MethodName) prog_11_method_49_code (3 : Nat) (Option.some Jvm.ClassFile.FieldType.int)) ∈ lw_all := lw_g (lw_at lw_m5 239 rfl) rfl
theorem q1281 : (Jvm.Cond.methodLink "SandPianoModel" (174 : Nat) ({ cls := "SandPianoModel", name := "isKey", desc := "(I)Z" } : Jvm.MethodName)) ∈ lw_all := lw_g (lw_at lw_m6 0 rfl) rfl
theorem q1282 : (Jvm.Cond.privateMethod ({ cls := "SandPianoModel", name := "isKey", desc := "(I)Z" } : Jvm.MethodName)) ∈ lw_tbl := lw_at lw_m6 1 rfl
theorem q1283 : (Jvm.Cond.instanceMethod ({ cls := "SandPianoModel", name := "isKey", desc := "(I)Z" } : Jvm.MethodName)) ∈ lw_all := lw_g (lw_at lw_m6 2 rfl) rfl
theorem q1284 : (Jvm.Cond.code ({ cls := "SandPianoModel", name := "isKey", desc := "(I)Z" } : Jvm.MethodName) prog_11_method_35_code (2 : Nat) (Option.some Jvm.ClassFile.FieldType.boolean)) ∈ lw_all := lw_g (lw_at lw_m6 3 rfl) rfl
theorem q1285 : (Jvm.Cond.methodLink "SandPianoModel" (177 : Nat) ({ cls := "SandPianoModel", name := "keyTells", desc := "(II)I" } : Jvm.MethodName)) ∈ lw_all := lw_g (lw_at lw_m6 4 rfl) rfl
theorem q1286 : (Jvm.Cond.privateMethod ({ cls := "SandPianoModel", name := "keyTells", desc := "(II)I" } : Jvm.MethodName)) ∈ lw_tbl := lw_at lw_m6 5 rfl
theorem q1287 : (Jvm.Cond.instanceMethod ({ cls := "SandPianoModel", name := "keyTells", desc := "(II)I" } : Jvm.MethodName)) ∈ lw_all := lw_g (lw_at lw_m6 6 rfl) rfl
theorem q1288 : (Jvm.Cond.code ({ cls := "SandPianoModel", name := "keyTells", desc := "(II)I" } : Jvm.MethodName) prog_11_method_48_code (3 : Nat) (Option.some Jvm.ClassFile.FieldType.int)) ∈ lw_all := lw_g (lw_at lw_m6 7 rfl) rfl
theorem q1289 : (Jvm.Cond.methodLink "SandPianoModel" (152 : Nat) ({ cls := "SandPianoModel", name := "v", desc := "(II)I" } : Jvm.MethodName)) ∈ lw_all := lw_g (lw_at lw_m6 8 rfl) rfl
theorem q1290 : (Jvm.Cond.privateMethod ({ cls := "SandPianoModel", name := "v", desc := "(II)I" } : Jvm.MethodName)) ∈ lw_tbl := lw_at lw_m6 9 rfl
theorem q1291 : (Jvm.Cond.instanceMethod ({ cls := "SandPianoModel", name := "v", desc := "(II)I" } : Jvm.MethodName)) ∈ lw_all := lw_g (lw_at lw_m6 10 rfl) rfl
theorem q1292 : (Jvm.Cond.code ({ cls := "SandPianoModel", name := "v", desc := "(II)I" } : Jvm.MethodName) prog_11_method_36_code (3 : Nat) (Option.some Jvm.ClassFile.FieldType.int)) ∈ lw_all := lw_g (lw_at lw_m6 11 rfl) rfl
theorem q1293 : (Jvm.Cond.methodLink "SandPianoModel" (155 : Nat) ({ cls := "SandPianoModel", name := "canPlay", desc := "(II)Z" } : Jvm.MethodName)) ∈ lw_all := lw_g (lw_at lw_m6 12 rfl) rfl
theorem q1294 : (Jvm.Cond.privateMethod ({ cls := "SandPianoModel", name := "canPlay", desc := "(II)Z" } : Jvm.MethodName)) ∈ lw_tbl := lw_at lw_m6 13 rfl
theorem q1295 : (Jvm.Cond.instanceMethod ({ cls := "SandPianoModel", name := "canPlay", desc := "(II)Z" } : Jvm.MethodName)) ∈ lw_all := lw_g (lw_at lw_m6 14 rfl) rfl
theorem q1296 : (Jvm.Cond.code ({ cls := "SandPianoModel", name := "canPlay", desc := "(II)Z" } : Jvm.MethodName) prog_11_method_40_code (4 : Nat) (Option.some Jvm.ClassFile.FieldType.boolean)) ∈ lw_all := lw_g (lw_at lw_m6 15 rfl) rfl
theorem q1298 : (Jvm.Cond.instanceMethod ({ cls := "SandPianoModel", name := "mark", desc := "(II)I" } : Jvm.MethodName)) ∈ lw_all := lw_g (lw_at lw_m6 17 rfl) rfl
theorem q1299 : (Jvm.Cond.selects "SandPianoModel" ({ cls := "SandPianoModel", name := "mark", desc := "(II)I" } : Jvm.MethodName) ({ cls := "SandPianoModel", name := "mark", desc := "(II)I" } : Jvm.MethodName)) ∈ lw_all := lw_g (lw_at lw_m6 18 rfl) rfl
theorem q1300 : (Jvm.Cond.code ({ cls := "SandPianoModel", name := "mark", desc := "(II)I" } : Jvm.MethodName) prog_11_method_50_code (4 : Nat) (Option.some Jvm.ClassFile.FieldType.int)) ∈ lw_all := lw_g (lw_at lw_m6 19 rfl) rfl
theorem q1301 : (Jvm.Cond.methodLink "SandPianoModel" (158 : Nat) ({ cls := "SandPianoModel", name := "lesser", desc := "(II)I" } : Jvm.MethodName)) ∈ lw_all := lw_g (lw_at lw_m6 20 rfl) rfl
theorem q1302 : (Jvm.Cond.static ({ cls := "SandPianoModel", name := "lesser", desc := "(II)I" } : Jvm.MethodName)) ∈ lw_all := lw_g (lw_at lw_m6 21 rfl) rfl
theorem q1303 : (Jvm.Cond.code ({ cls := "SandPianoModel", name := "lesser", desc := "(II)I" } : Jvm.MethodName) prog_11_method_5_code (2 : Nat) (Option.some Jvm.ClassFile.FieldType.int)) ∈ lw_all := lw_g (lw_at lw_m6 22 rfl) rfl
theorem q1304 : (Jvm.Cond.methodLink "SandPianoModel" (180 : Nat) ({ cls := "SandPianoModel", name := "greater", desc := "(II)I" } : Jvm.MethodName)) ∈ lw_all := lw_g (lw_at lw_m6 23 rfl) rfl
theorem q1305 : (Jvm.Cond.static ({ cls := "SandPianoModel", name := "greater", desc := "(II)I" } : Jvm.MethodName)) ∈ lw_all := lw_g (lw_at lw_m6 24 rfl) rfl
theorem q1306 : (Jvm.Cond.code ({ cls := "SandPianoModel", name := "greater", desc := "(II)I" } : Jvm.MethodName) prog_11_method_6_code (2 : Nat) (Option.some Jvm.ClassFile.FieldType.int)) ∈ lw_all := lw_g (lw_at lw_m6 25 rfl) rfl
theorem q1307 : (Jvm.Cond.methodLink "SandPianoModel" (171 : Nat) ({ cls := "SandPianoModel", name := "leftOf", desc := "(I)I" } : Jvm.MethodName)) ∈ lw_all := lw_g (lw_at lw_m6 26 rfl) rfl
theorem q1308 : (Jvm.Cond.privateMethod ({ cls := "SandPianoModel", name := "leftOf", desc := "(I)I" } : Jvm.MethodName)) ∈ lw_tbl := lw_at lw_m6 27 rfl
theorem q1309 : (Jvm.Cond.instanceMethod ({ cls := "SandPianoModel", name := "leftOf", desc := "(I)I" } : Jvm.MethodName)) ∈ lw_all := lw_g (lw_at lw_m6 28 rfl) rfl
theorem q1310 : (Jvm.Cond.code ({ cls := "SandPianoModel", name := "leftOf", desc := "(I)I" } : Jvm.MethodName) prog_11_method_43_code (2 : Nat) (Option.some Jvm.ClassFile.FieldType.int)) ∈ lw_all := lw_g (lw_at lw_m6 29 rfl) rfl
theorem q1311 : (Jvm.Cond.methodLink "SandPianoModel" (183 : Nat) ({ cls := "SandPianoModel", name := "canSet", desc := "(I)I" } : Jvm.MethodName)) ∈ lw_all := lw_g (lw_at lw_m6 30 rfl) rfl
theorem q1312 : (Jvm.Cond.privateMethod ({ cls := "SandPianoModel", name := "canSet", desc := "(I)I" } : Jvm.MethodName)) ∈ lw_tbl := lw_at lw_m6 31 rfl
theorem q1313 : (Jvm.Cond.instanceMethod ({ cls := "SandPianoModel", name := "canSet", desc := "(I)I" } : Jvm.MethodName)) ∈ lw_all := lw_g (lw_at lw_m6 32 rfl) rfl
theorem q1314 : (Jvm.Cond.code ({ cls := "SandPianoModel", name := "canSet", desc := "(I)I" } : Jvm.MethodName) prog_11_method_41_code (4 : Nat) (Option.some Jvm.ClassFile.FieldType.int)) ∈ lw_all := lw_g (lw_at lw_m6 33 rfl) rfl
theorem q1315 : (Jvm.Cond.methodLink "SandPianoModel" (186 : Nat) ({ cls := "SandPianoModel", name := "bits", desc := "(I)I" } : Jvm.MethodName)) ∈ lw_all := lw_g (lw_at lw_m6 34 rfl) rfl
theorem q1316 : (Jvm.Cond.static ({ cls := "SandPianoModel", name := "bits", desc := "(I)I" } : Jvm.MethodName)) ∈ lw_all := lw_g (lw_at lw_m6 35 rfl) rfl
theorem q1317 : (Jvm.Cond.code ({ cls := "SandPianoModel", name := "bits", desc := "(I)I" } : Jvm.MethodName) prog_11_method_4_code (3 : Nat) (Option.some Jvm.ClassFile.FieldType.int)) ∈ lw_all := lw_g (lw_at lw_m6 36 rfl) rfl
theorem q1319 : (Jvm.Cond.instanceMethod ({ cls := "SandPianoModel", name := "spade", desc := "(I)I" } : Jvm.MethodName)) ∈ lw_all := lw_g (lw_at lw_m6 38 rfl) rfl
theorem q1320 : (Jvm.Cond.selects "SandPianoModel" ({ cls := "SandPianoModel", name := "spade", desc := "(I)I" } : Jvm.MethodName) ({ cls := "SandPianoModel", name := "spade", desc := "(I)I" } : Jvm.MethodName)) ∈ lw_all := lw_g (lw_at lw_m6 39 rfl) rfl
theorem q1321 : (Jvm.Cond.code ({ cls := "SandPianoModel", name := "spade", desc := "(I)I" } : Jvm.MethodName) prog_11_method_51_code (3 : Nat) (Option.some Jvm.ClassFile.FieldType.int)) ∈ lw_all := lw_g (lw_at lw_m6 40 rfl) rfl
theorem q1323 : (Jvm.Cond.instanceMethod ({ cls := "SandPianoModel", name := "play", desc := "(I)I" } : Jvm.MethodName)) ∈ lw_all := lw_g (lw_at lw_m6 42 rfl) rfl
theorem q1324 : (Jvm.Cond.selects "SandPianoModel" ({ cls := "SandPianoModel", name := "play", desc := "(I)I" } : Jvm.MethodName) ({ cls := "SandPianoModel", name := "play", desc := "(I)I" } : Jvm.MethodName)) ∈ lw_all := lw_g (lw_at lw_m6 43 rfl) rfl
theorem q1325 : (Jvm.Cond.code ({ cls := "SandPianoModel", name := "play", desc := "(I)I" } : Jvm.MethodName) prog_11_method_53_code (2 : Nat) (Option.some Jvm.ClassFile.FieldType.int)) ∈ lw_all := lw_g (lw_at lw_m6 44 rfl) rfl
theorem q1326 : (Jvm.Cond.methodLink "SandPianoModel" (189 : Nat) ({ cls := "SandPianoModel", name := "remember", desc := "()V" } : Jvm.MethodName)) ∈ lw_all := lw_g (lw_at lw_m6 45 rfl) rfl
theorem q1327 : (Jvm.Cond.privateMethod ({ cls := "SandPianoModel", name := "remember", desc := "()V" } : Jvm.MethodName)) ∈ lw_tbl := lw_at lw_m6 46 rfl
theorem q1328 : (Jvm.Cond.instanceMethod ({ cls := "SandPianoModel", name := "remember", desc := "()V" } : Jvm.MethodName)) ∈ lw_all := lw_g (lw_at lw_m6 47 rfl) rfl
theorem q1329 : (Jvm.Cond.code ({ cls := "SandPianoModel", name := "remember", desc := "()V" } : Jvm.MethodName) prog_11_method_52_code (2 : Nat) (Option.none : Option Jvm.ClassFile.FieldType)) ∈ lw_all := lw_g (lw_at lw_m6 48 rfl) rfl
theorem q1330 : (Jvm.Cond.methodLink "SandPianoModel" (192 : Nat) ({ cls := "SandPianoModel", name := "plays", desc := "(II)V" } : Jvm.MethodName)) ∈ lw_all := lw_g (lw_at lw_m6 49 rfl) rfl
theorem q1331 : (Jvm.Cond.privateMethod ({ cls := "SandPianoModel", name := "plays", desc := "(II)V" } : Jvm.MethodName)) ∈ lw_tbl := lw_at lw_m6 50 rfl
theorem q1332 : (Jvm.Cond.instanceMethod ({ cls := "SandPianoModel", name := "plays", desc := "(II)V" } : Jvm.MethodName)) ∈ lw_all := lw_g (lw_at lw_m6 51 rfl) rfl
theorem q1333 : (Jvm.Cond.code ({ cls := "SandPianoModel", name := "plays", desc := "(II)V" } : Jvm.MethodName) prog_11_method_45_code (3 : Nat) (Option.none : Option Jvm.ClassFile.FieldType)) ∈ lw_all := lw_g (lw_at lw_m6 52 rfl) rfl
theorem q1334 : (Jvm.Cond.methodLink "SandPianoModel" (164 : Nat) ({ cls := "SandPianoModel", name := "rightOf", desc := "(I)I" } : Jvm.MethodName)) ∈ lw_all := lw_g (lw_at lw_m6 53 rfl) rfl
theorem q1335 : (Jvm.Cond.privateMethod ({ cls := "SandPianoModel", name := "rightOf", desc := "(I)I" } : Jvm.MethodName)) ∈ lw_tbl := lw_at lw_m6 54 rfl
theorem q1336 : (Jvm.Cond.instanceMethod ({ cls := "SandPianoModel", name := "rightOf", desc := "(I)I" } : Jvm.MethodName)) ∈ lw_all := lw_g (lw_at lw_m6 55 rfl) rfl
theorem q1337 : (Jvm.Cond.code ({ cls := "SandPianoModel", name := "rightOf", desc := "(I)I" } : Jvm.MethodName) prog_11_method_44_code (2 : Nat) (Option.some Jvm.ClassFile.FieldType.int)) ∈ lw_all := lw_g (lw_at lw_m6 56 rfl) rfl
theorem q1338 : (Jvm.Cond.methodLink "SandPianoModel" (167 : Nat) ({ cls := "SandPianoModel", name := "moves", desc := "(IIII)I" } : Jvm.MethodName)) ∈ lw_all := lw_g (lw_at lw_m6 57 rfl) rfl
theorem q1339 : (Jvm.Cond.privateMethod ({ cls := "SandPianoModel", name := "moves", desc := "(IIII)I" } : Jvm.MethodName)) ∈ lw_tbl := lw_at lw_m6 58 rfl
theorem q1340 : (Jvm.Cond.instanceMethod ({ cls := "SandPianoModel", name := "moves", desc := "(IIII)I" } : Jvm.MethodName)) ∈ lw_all := lw_g (lw_at lw_m6 59 rfl) rfl
theorem q1341 : (Jvm.Cond.code ({ cls := "SandPianoModel", name := "moves", desc := "(IIII)I" } : Jvm.MethodName) prog_11_method_42_code (6 : Nat) (Option.some Jvm.ClassFile.FieldType.int)) ∈ lw_all := lw_g (lw_at lw_m6 60 rfl) rfl
theorem q1342 : (Jvm.Cond.methodLink "SandPianoModel" (161 : Nat) ({ cls := "SandPianoModel", name := "add", desc := "(III)V" } : Jvm.MethodName)) ∈ lw_all := lw_g (lw_at lw_m6 61 rfl) rfl
theorem q1343 : (Jvm.Cond.privateMethod ({ cls := "SandPianoModel", name := "add", desc := "(III)V" } : Jvm.MethodName)) ∈ lw_tbl := lw_at lw_m6 62 rfl
theorem q1344 : (Jvm.Cond.instanceMethod ({ cls := "SandPianoModel", name := "add", desc := "(III)V" } : Jvm.MethodName)) ∈ lw_all := lw_g (lw_at lw_m6 63 rfl) rfl
theorem q1345 : (Jvm.Cond.code ({ cls := "SandPianoModel", name := "add", desc := "(III)V" } : Jvm.MethodName) prog_11_method_38_code (4 : Nat) (Option.none : Option Jvm.ClassFile.FieldType)) ∈ lw_all := lw_g (lw_at lw_m6 64 rfl) rfl
theorem q1347 : (Jvm.Cond.instanceMethod ({ cls := "SandPianoModel", name := "tide", desc := "(I)I" } : Jvm.MethodName)) ∈ lw_all := lw_g (lw_at lw_m6 66 rfl) rfl
theorem q1348 : (Jvm.Cond.selects "SandPianoModel" ({ cls := "SandPianoModel", name := "tide", desc := "(I)I" } : Jvm.MethodName) ({ cls := "SandPianoModel", name := "tide", desc := "(I)I" } : Jvm.MethodName)) ∈ lw_all := lw_g (lw_at lw_m6 67 rfl) rfl
theorem q1349 : (Jvm.Cond.code ({ cls := "SandPianoModel", name := "tide", desc := "(I)I" } : Jvm.MethodName) prog_11_method_55_code (3 : Nat) (Option.some Jvm.ClassFile.FieldType.int)) ∈ lw_all := lw_g (lw_at lw_m6 68 rfl) rfl
theorem q1350 : (Jvm.Cond.methodLink "SandPianoModel" (196 : Nat) ({ cls := "SandPianoModel", name := "needDeed", desc := "()I" } : Jvm.MethodName)) ∈ lw_all := lw_g (lw_at lw_m6 69 rfl) rfl
theorem q1351 : (Jvm.Cond.privateMethod ({ cls := "SandPianoModel", name := "needDeed", desc := "()I" } : Jvm.MethodName)) ∈ lw_tbl := lw_at lw_m6 70 rfl
theorem q1352 : (Jvm.Cond.instanceMethod ({ cls := "SandPianoModel", name := "needDeed", desc := "()I" } : Jvm.MethodName)) ∈ lw_all := lw_g (lw_at lw_m6 71 rfl) rfl
theorem q1353 : (Jvm.Cond.code ({ cls := "SandPianoModel", name := "needDeed", desc := "()I" } : Jvm.MethodName) prog_11_method_54_code (1 : Nat) (Option.some Jvm.ClassFile.FieldType.int)) ∈ lw_all := lw_g (lw_at lw_m6 72 rfl) rfl
theorem q1354 : (Jvm.Cond.methodLink "SandPianoModel" (200 : Nat) ({ cls := "SandPianoModel", name := "tides", desc := "(II)I" } : Jvm.MethodName)) ∈ lw_all := lw_g (lw_at lw_m6 73 rfl) rfl
theorem q1355 : (Jvm.Cond.privateMethod ({ cls := "SandPianoModel", name := "tides", desc := "(II)I" } : Jvm.MethodName)) ∈ lw_tbl := lw_at lw_m6 74 rfl
theorem q1356 : (Jvm.Cond.instanceMethod ({ cls := "SandPianoModel", name := "tides", desc := "(II)I" } : Jvm.MethodName)) ∈ lw_all := lw_g (lw_at lw_m6 75 rfl) rfl
theorem q1357 : (Jvm.Cond.code ({ cls := "SandPianoModel", name := "tides", desc := "(II)I" } : Jvm.MethodName) prog_11_method_46_code (5 : Nat) (Option.some Jvm.ClassFile.FieldType.int)) ∈ lw_all := lw_g (lw_at lw_m6 76 rfl) rfl
theorem q1359 : (Jvm.Cond.instanceMethod ({ cls := "SandPianoModel", name := "storm", desc := "(I)I" } : Jvm.MethodName)) ∈ lw_all := lw_g (lw_at lw_m6 78 rfl) rfl
theorem q1360 : (Jvm.Cond.selects "SandPianoModel" ({ cls := "SandPianoModel", name := "storm", desc := "(I)I" } : Jvm.MethodName) ({ cls := "SandPianoModel", name := "storm", desc := "(I)I" } : Jvm.MethodName)) ∈ lw_all := lw_g (lw_at lw_m6 79 rfl) rfl
theorem q1361 : (Jvm.Cond.code ({ cls := "SandPianoModel", name := "storm", desc := "(I)I" } : Jvm.MethodName) prog_11_method_56_code (3 : Nat) (Option.some Jvm.ClassFile.FieldType.int)) ∈ lw_all := lw_g (lw_at lw_m6 80 rfl) rfl
theorem q1362 : (Jvm.Cond.methodLink "SandPianoModel" (203 : Nat) ({ cls := "SandPianoModel", name := "storms", desc := "(II)I" } : Jvm.MethodName)) ∈ lw_all := lw_g (lw_at lw_m6 81 rfl) rfl
theorem q1363 : (Jvm.Cond.privateMethod ({ cls := "SandPianoModel", name := "storms", desc := "(II)I" } : Jvm.MethodName)) ∈ lw_tbl := lw_at lw_m6 82 rfl
theorem q1364 : (Jvm.Cond.instanceMethod ({ cls := "SandPianoModel", name := "storms", desc := "(II)I" } : Jvm.MethodName)) ∈ lw_all := lw_g (lw_at lw_m6 83 rfl) rfl
theorem q1365 : (Jvm.Cond.code ({ cls := "SandPianoModel", name := "storms", desc := "(II)I" } : Jvm.MethodName) prog_11_method_47_code (8 : Nat) (Option.some Jvm.ClassFile.FieldType.int)) ∈ lw_all := lw_g (lw_at lw_m6 84 rfl) rfl
theorem q1367 : (Jvm.Cond.instanceMethod ({ cls := "SandPianoModel", name := "dig", desc := "(I)I" } : Jvm.MethodName)) ∈ lw_all := lw_g (lw_at lw_m6 86 rfl) rfl
theorem q1368 : (Jvm.Cond.selects "SandPianoModel" ({ cls := "SandPianoModel", name := "dig", desc := "(I)I" } : Jvm.MethodName) ({ cls := "SandPianoModel", name := "dig", desc := "(I)I" } : Jvm.MethodName)) ∈ lw_all := lw_g (lw_at lw_m6 87 rfl) rfl
theorem q1369 : (Jvm.Cond.code ({ cls := "SandPianoModel", name := "dig", desc := "(I)I" } : Jvm.MethodName) prog_11_method_57_code (2 : Nat) (Option.some Jvm.ClassFile.FieldType.int)) ∈ lw_all := lw_g (lw_at lw_m6 88 rfl) rfl
theorem q1371 : (Jvm.Cond.instanceMethod ({ cls := "SandPianoModel", name := "undo", desc := "(I)I" } : Jvm.MethodName)) ∈ lw_all := lw_g (lw_at lw_m6 90 rfl) rfl
theorem q1372 : (Jvm.Cond.selects "SandPianoModel" ({ cls := "SandPianoModel", name := "undo", desc := "(I)I" } : Jvm.MethodName) ({ cls := "SandPianoModel", name := "undo", desc := "(I)I" } : Jvm.MethodName)) ∈ lw_all := lw_g (lw_at lw_m6 91 rfl) rfl
theorem q1373 : (Jvm.Cond.code ({ cls := "SandPianoModel", name := "undo", desc := "(I)I" } : Jvm.MethodName) prog_11_method_58_code (4 : Nat) (Option.some Jvm.ClassFile.FieldType.int)) ∈ lw_all := lw_g (lw_at lw_m6 92 rfl) rfl
theorem q1375 : (Jvm.Cond.instanceMethod ({ cls := "SandPianoModel", name := "can", desc := "()I" } : Jvm.MethodName)) ∈ lw_all := lw_g (lw_at lw_m6 94 rfl) rfl
theorem q1376 : (Jvm.Cond.selects "SandPianoModel" ({ cls := "SandPianoModel", name := "can", desc := "()I" } : Jvm.MethodName) ({ cls := "SandPianoModel", name := "can", desc := "()I" } : Jvm.MethodName)) ∈ lw_all := lw_g (lw_at lw_m6 95 rfl) rfl
theorem q1377 : (Jvm.Cond.code ({ cls := "SandPianoModel", name := "can", desc := "()I" } : Jvm.MethodName) prog_11_method_59_code (1 : Nat) (Option.some Jvm.ClassFile.FieldType.int)) ∈ lw_all := lw_g (lw_at lw_m6 96 rfl) rfl
theorem q1379 : (Jvm.Cond.instanceMethod ({ cls := "SandPianoModel", name := "keep", desc := "(I)I" } : Jvm.MethodName)) ∈ lw_all := lw_g (lw_at lw_m6 98 rfl) rfl
theorem q1380 : (Jvm.Cond.selects "SandPianoModel" ({ cls := "SandPianoModel", name := "keep", desc := "(I)I" } : Jvm.MethodName) ({ cls := "SandPianoModel", name := "keep", desc := "(I)I" } : Jvm.MethodName)) ∈ lw_all := lw_g (lw_at lw_m6 99 rfl) rfl
theorem q1381 : (Jvm.Cond.code ({ cls := "SandPianoModel", name := "keep", desc := "(I)I" } : Jvm.MethodName) prog_11_method_60_code (3 : Nat) (Option.some Jvm.ClassFile.FieldType.int)) ∈ lw_all := lw_g (lw_at lw_m6 100 rfl) rfl
theorem q1383 : (Jvm.Cond.instanceMethod ({ cls := "SandPianoModel", name := "on", desc := "(I)I" } : Jvm.MethodName)) ∈ lw_all := lw_g (lw_at lw_m6 102 rfl) rfl
theorem q1384 : (Jvm.Cond.selects "SandPianoModel" ({ cls := "SandPianoModel", name := "on", desc := "(I)I" } : Jvm.MethodName) ({ cls := "SandPianoModel", name := "on", desc := "(I)I" } : Jvm.MethodName)) ∈ lw_all := lw_g (lw_at lw_m6 103 rfl) rfl
theorem q1385 : (Jvm.Cond.code ({ cls := "SandPianoModel", name := "on", desc := "(I)I" } : Jvm.MethodName) prog_11_method_61_code (3 : Nat) (Option.some Jvm.ClassFile.FieldType.int)) ∈ lw_all := lw_g (lw_at lw_m6 104 rfl) rfl
theorem q1387 : (Jvm.Cond.instanceMethod ({ cls := "SandPianoModel", name := "judge", desc := "(I)I" } : Jvm.MethodName)) ∈ lw_all := lw_g (lw_at lw_m6 106 rfl) rfl
theorem q1388 : (Jvm.Cond.selects "SandPianoModel" ({ cls := "SandPianoModel", name := "judge", desc := "(I)I" } : Jvm.MethodName) ({ cls := "SandPianoModel", name := "judge", desc := "(I)I" } : Jvm.MethodName)) ∈ lw_all := lw_g (lw_at lw_m6 107 rfl) rfl
theorem q1389 : (Jvm.Cond.code ({ cls := "SandPianoModel", name := "judge", desc := "(I)I" } : Jvm.MethodName) prog_11_method_65_code (4 : Nat) (Option.some Jvm.ClassFile.FieldType.int)) ∈ lw_all := lw_g (lw_at lw_m6 108 rfl) rfl
theorem q1390 : (Jvm.Cond.methodLink "SandPianoModel" (209 : Nat) ({ cls := "SandPianoModel", name := "needPiece", desc := "(I)I" } : Jvm.MethodName)) ∈ lw_all := lw_g (lw_at lw_m6 109 rfl) rfl
theorem q1391 : (Jvm.Cond.privateMethod ({ cls := "SandPianoModel", name := "needPiece", desc := "(I)I" } : Jvm.MethodName)) ∈ lw_tbl := lw_at lw_m6 110 rfl
theorem q1392 : (Jvm.Cond.instanceMethod ({ cls := "SandPianoModel", name := "needPiece", desc := "(I)I" } : Jvm.MethodName)) ∈ lw_all := lw_g (lw_at lw_m6 111 rfl) rfl
theorem q1393 : (Jvm.Cond.code ({ cls := "SandPianoModel", name := "needPiece", desc := "(I)I" } : Jvm.MethodName) prog_11_method_63_code (2 : Nat) (Option.some Jvm.ClassFile.FieldType.int)) ∈ lw_all := lw_g (lw_at lw_m6 112 rfl) rfl
theorem q1394 : (Jvm.Cond.methodLink "SandPianoModel" (206 : Nat) ({ cls := "SandPianoModel", name := "pieceOf", desc := "(I)I" } : Jvm.MethodName)) ∈ lw_all := lw_g (lw_at lw_m6 113 rfl) rfl
theorem q1395 : (Jvm.Cond.privateMethod ({ cls := "SandPianoModel", name := "pieceOf", desc := "(I)I" } : Jvm.MethodName)) ∈ lw_tbl := lw_at lw_m6 114 rfl
theorem q1396 : (Jvm.Cond.instanceMethod ({ cls := "SandPianoModel", name := "pieceOf", desc := "(I)I" } : Jvm.MethodName)) ∈ lw_all := lw_g (lw_at lw_m6 115 rfl) rfl
theorem q1397 : (Jvm.Cond.code ({ cls := "SandPianoModel", name := "pieceOf", desc := "(I)I" } : Jvm.MethodName) prog_11_method_62_code (4 : Nat) (Option.some Jvm.ClassFile.FieldType.int)) ∈ lw_all := lw_g (lw_at lw_m6 116 rfl) rfl
theorem q1398 : (Jvm.Cond.methodLink "SandPianoModel" (212 : Nat) ({ cls := "SandPianoModel", name := "copyTo", desc := "(II)V" } : Jvm.MethodName)) ∈ lw_all := lw_g (lw_at lw_m6 117 rfl) rfl
theorem q1399 : (Jvm.Cond.privateMethod ({ cls := "SandPianoModel", name := "copyTo", desc := "(II)V" } : Jvm.MethodName)) ∈ lw_tbl := lw_at lw_m6 118 rfl
theorem q1400 : (Jvm.Cond.instanceMethod ({ cls := "SandPianoModel", name := "copyTo", desc := "(II)V" } : Jvm.MethodName)) ∈ lw_all := lw_g (lw_at lw_m6 119 rfl) rfl
theorem q1401 : (Jvm.Cond.code ({ cls := "SandPianoModel", name := "copyTo", desc := "(II)V" } : Jvm.MethodName) prog_11_method_39_code (4 : Nat) (Option.none : Option Jvm.ClassFile.FieldType)) ∈ lw_all := lw_g (lw_at lw_m6 120 rfl) rfl
theorem q1402 : (Jvm.Cond.methodLink "SandPianoModel" (215 : Nat) ({ cls := "SandPianoModel", name := "firstAgainst", desc := "(II)I" } : Jvm.MethodName)) ∈ lw_all := lw_g (lw_at lw_m6 121 rfl) rfl
theorem q1403 : (Jvm.Cond.privateMethod ({ cls := "SandPianoModel", name := "firstAgainst", desc := "(II)I" } : Jvm.MethodName)) ∈ lw_tbl := lw_at lw_m6 122 rfl
theorem q1404 : (Jvm.Cond.instanceMethod ({ cls := "SandPianoModel", name := "firstAgainst", desc := "(II)I" } : Jvm.MethodName)) ∈ lw_all := lw_g (lw_at lw_m6 123 rfl) rfl
theorem q1405 : (Jvm.Cond.code ({ cls := "SandPianoModel", name := "firstAgainst", desc := "(II)I" } : Jvm.MethodName) prog_11_method_64_code (4 : Nat) (Option.some Jvm.ClassFile.FieldType.int)) ∈ lw_all := lw_g (lw_at lw_m6 124 rfl) rfl
theorem q1407 : (Jvm.Cond.instanceMethod ({ cls := "SandPianoModel", name := "earns", desc := "(I)I" } : Jvm.MethodName)) ∈ lw_all := lw_g (lw_at lw_m6 126 rfl) rfl
theorem q1408 : (Jvm.Cond.selects "SandPianoModel" ({ cls := "SandPianoModel", name := "earns", desc := "(I)I" } : Jvm.MethodName) ({ cls := "SandPianoModel", name := "earns", desc := "(I)I" } : Jvm.MethodName)) ∈ lw_all := lw_g (lw_at lw_m6 127 rfl) rfl
theorem q1409 : (Jvm.Cond.code ({ cls := "SandPianoModel", name := "earns", desc := "(I)I" } : Jvm.MethodName) prog_11_method_66_code (3 : Nat) (Option.some Jvm.ClassFile.FieldType.int)) ∈ lw_all := lw_g (lw_at lw_m6 128 rfl) rfl
theorem q1411 : (Jvm.Cond.instanceMethod ({ cls := "SandPianoModel", name := "digs", desc := "(II)I" } : Jvm.MethodName)) ∈ lw_all := lw_g (lw_at lw_m6 130 rfl) rfl
theorem q1412 : (Jvm.Cond.selects "SandPianoModel" ({ cls := "SandPianoModel", name := "digs", desc := "(II)I" } : Jvm.MethodName) ({ cls := "SandPianoModel", name := "digs", desc := "(II)I" } : Jvm.MethodName)) ∈ lw_all := lw_g (lw_at lw_m6 131 rfl) rfl
theorem q1413 : (Jvm.Cond.code ({ cls := "SandPianoModel", name := "digs", desc := "(II)I" } : Jvm.MethodName) prog_11_method_68_code (5 : Nat) (Option.some Jvm.ClassFile.FieldType.int)) ∈ lw_all := lw_g (lw_at lw_m6 132 rfl) rfl
theorem q1414 : (Jvm.Cond.methodLink "SandPianoModel" (218 : Nat) ({ cls := "SandPianoModel", name := "digsOn", desc := "(III)Z" } : Jvm.MethodName)) ∈ lw_all := lw_g (lw_at lw_m6 133 rfl) rfl
theorem q1415 : (Jvm.Cond.privateMethod ({ cls := "SandPianoModel", name := "digsOn", desc := "(III)Z" } : Jvm.MethodName)) ∈ lw_tbl := lw_at lw_m6 134 rfl
theorem q1416 : (Jvm.Cond.instanceMethod ({ cls := "SandPianoModel", name := "digsOn", desc := "(III)Z" } : Jvm.MethodName)) ∈ lw_all := lw_g (lw_at lw_m6 135 rfl) rfl
theorem q1417 : (Jvm.Cond.code ({ cls := "SandPianoModel", name := "digsOn", desc := "(III)Z" } : Jvm.MethodName) prog_11_method_67_code (5 : Nat) (Option.some Jvm.ClassFile.FieldType.boolean)) ∈ lw_all := lw_g (lw_at lw_m6 136 rfl) rfl
theorem q1418 : (Jvm.Cond.methodLink "SandPianoModel" (221 : Nat) ({ cls := "SandPianoModel", name := "layRow", desc := "(I[II)V" } : Jvm.MethodName)) ∈ lw_all := lw_g (lw_at lw_m6 137 rfl) rfl
theorem q1419 : (Jvm.Cond.privateMethod ({ cls := "SandPianoModel", name := "layRow", desc := "(I[II)V" } : Jvm.MethodName)) ∈ lw_tbl := lw_at lw_m6 138 rfl
theorem q1420 : (Jvm.Cond.instanceMethod ({ cls := "SandPianoModel", name := "layRow", desc := "(I[II)V" } : Jvm.MethodName)) ∈ lw_all := lw_g (lw_at lw_m6 139 rfl) rfl
theorem q1421 : (Jvm.Cond.code ({ cls := "SandPianoModel", name := "layRow", desc := "(I[II)V" } : Jvm.MethodName) prog_11_method_27_code (5 : Nat) (Option.none : Option Jvm.ClassFile.FieldType)) ∈ lw_all := lw_g (lw_at lw_m6 140 rfl) rfl
theorem q1423 : (Jvm.Cond.instanceMethod ({ cls := "SandPianoModel", name := "lasts", desc := "(II)I" } : Jvm.MethodName)) ∈ lw_all := lw_g (lw_at lw_m6 142 rfl) rfl
theorem q1424 : (Jvm.Cond.selects "SandPianoModel" ({ cls := "SandPianoModel", name := "lasts", desc := "(II)I" } : Jvm.MethodName) ({ cls := "SandPianoModel", name := "lasts", desc := "(II)I" } : Jvm.MethodName)) ∈ lw_all := lw_g (lw_at lw_m6 143 rfl) rfl
theorem q1425 : (Jvm.Cond.code ({ cls := "SandPianoModel", name := "lasts", desc := "(II)I" } : Jvm.MethodName) prog_11_method_69_code (5 : Nat) (Option.some Jvm.ClassFile.FieldType.int)) ∈ lw_all := lw_g (lw_at lw_m6 144 rfl) rfl
theorem q1427 : (Jvm.Cond.instanceMethod ({ cls := "SandPianoModel", name := "duet", desc := "(II)I" } : Jvm.MethodName)) ∈ lw_all := lw_g (lw_at lw_m6 146 rfl) rfl
theorem q1428 : (Jvm.Cond.selects "SandPianoModel" ({ cls := "SandPianoModel", name := "duet", desc := "(II)I" } : Jvm.MethodName) ({ cls := "SandPianoModel", name := "duet", desc := "(II)I" } : Jvm.MethodName)) ∈ lw_all := lw_g (lw_at lw_m6 147 rfl) rfl
theorem q1429 : (Jvm.Cond.code ({ cls := "SandPianoModel", name := "duet", desc := "(II)I" } : Jvm.MethodName) prog_11_method_70_code (5 : Nat) (Option.some Jvm.ClassFile.FieldType.int)) ∈ lw_all := lw_g (lw_at lw_m6 148 rfl) rfl
theorem q1431 : (Jvm.Cond.instanceMethod ({ cls := "SandPianoModel", name := "most", desc := "(I)I" } : Jvm.MethodName)) ∈ lw_all := lw_g (lw_at lw_m6 150 rfl) rfl
theorem q1432 : (Jvm.Cond.selects "SandPianoModel" ({ cls := "SandPianoModel", name := "most", desc := "(I)I" } : Jvm.MethodName) ({ cls := "SandPianoModel", name := "most", desc := "(I)I" } : Jvm.MethodName)) ∈ lw_all := lw_g (lw_at lw_m6 151 rfl) rfl
theorem q1433 : (Jvm.Cond.code ({ cls := "SandPianoModel", name := "most", desc := "(I)I" } : Jvm.MethodName) prog_11_method_73_code (2 : Nat) (Option.some Jvm.ClassFile.FieldType.int)) ∈ lw_all := lw_g (lw_at lw_m6 152 rfl) rfl
theorem q1434 : (Jvm.Cond.methodLink "SandPianoModel" (235 : Nat) ({ cls := "SandPianoModel", name := "layMost", desc := "(II)V" } : Jvm.MethodName)) ∈ lw_all := lw_g (lw_at lw_m6 153 rfl) rfl
theorem q1435 : (Jvm.Cond.privateMethod ({ cls := "SandPianoModel", name := "layMost", desc := "(II)V" } : Jvm.MethodName)) ∈ lw_tbl := lw_at lw_m6 154 rfl
theorem q1436 : (Jvm.Cond.instanceMethod ({ cls := "SandPianoModel", name := "layMost", desc := "(II)V" } : Jvm.MethodName)) ∈ lw_all := lw_g (lw_at lw_m6 155 rfl) rfl
theorem q1437 : (Jvm.Cond.code ({ cls := "SandPianoModel", name := "layMost", desc := "(II)V" } : Jvm.MethodName) prog_11_method_72_code (4 : Nat) (Option.none : Option Jvm.ClassFile.FieldType)) ∈ lw_all := lw_g (lw_at lw_m6 156 rfl) rfl
theorem q1438 : (Jvm.Cond.methodLink "SandPianoModel" (228 : Nat) ({ cls := "SandPianoModel", name := "takeTried", desc := "(I)V" } : Jvm.MethodName)) ∈ lw_all := lw_g (lw_at lw_m6 157 rfl) rfl
theorem q1439 : (Jvm.Cond.privateMethod ({ cls := "SandPianoModel", name := "takeTried", desc := "(I)V" } : Jvm.MethodName)) ∈ lw_tbl := lw_at lw_m6 158 rfl
theorem q1440 : (Jvm.Cond.instanceMethod ({ cls := "SandPianoModel", name := "takeTried", desc := "(I)V" } : Jvm.MethodName)) ∈ lw_all := lw_g (lw_at lw_m6 159 rfl) rfl
theorem q1441 : (Jvm.Cond.code ({ cls := "SandPianoModel", name := "takeTried", desc := "(I)V" } : Jvm.MethodName) prog_11_method_71_code (3 : Nat) (Option.none : Option Jvm.ClassFile.FieldType)) ∈ lw_all := lw_g (lw_at lw_m6 160 rfl) rfl
theorem q1442 : (Jvm.Cond.methodLink "SandPianoModel" (232 : Nat) ({ cls := "SandPianoModel", name := "has", desc := "(II)Z" } : Jvm.MethodName)) ∈ lw_all := lw_g (lw_at lw_m6 161 rfl) rfl
theorem q1443 : (Jvm.Cond.static ({ cls := "SandPianoModel", name := "has", desc := "(II)Z" } : Jvm.MethodName)) ∈ lw_all := lw_g (lw_at lw_m6 162 rfl) rfl
theorem q1444 : (Jvm.Cond.code ({ cls := "SandPianoModel", name := "has", desc := "(II)Z" } : Jvm.MethodName) prog_11_method_3_code (2 : Nat) (Option.some Jvm.ClassFile.FieldType.boolean)) ∈ lw_all := lw_g (lw_at lw_m6 163 rfl) rfl
theorem q1446 : (Jvm.Cond.instanceMethod ({ cls := "SandPianoModel", name := "best", desc := "(II)I" } : Jvm.MethodName)) ∈ lw_all := lw_g (lw_at lw_m6 165 rfl) rfl
theorem q1447 : (Jvm.Cond.selects "SandPianoModel" ({ cls := "SandPianoModel", name := "best", desc := "(II)I" } : Jvm.MethodName) ({ cls := "SandPianoModel", name := "best", desc := "(II)I" } : Jvm.MethodName)) ∈ lw_all := lw_g (lw_at lw_m6 166 rfl) rfl
theorem q1448 : (Jvm.Cond.code ({ cls := "SandPianoModel", name := "best", desc := "(II)I" } : Jvm.MethodName) prog_11_method_75_code (3 : Nat) (Option.some Jvm.ClassFile.FieldType.int)) ∈ lw_all := lw_g (lw_at lw_m6 167 rfl) rfl
theorem q1449 : (Jvm.Cond.methodLink "SandPianoModel" (241 : Nat) ({ cls := "SandPianoModel", name := "layBest", desc := "(II)V" } : Jvm.MethodName)) ∈ lw_all := lw_g (lw_at lw_m6 168 rfl) rfl
theorem q1450 : (Jvm.Cond.privateMethod ({ cls := "SandPianoModel", name := "layBest", desc := "(II)V" } : Jvm.MethodName)) ∈ lw_tbl := lw_at lw_m6 169 rfl
theorem q1451 : (Jvm.Cond.instanceMethod ({ cls := "SandPianoModel", name := "layBest", desc := "(II)V" } : Jvm.MethodName)) ∈ lw_all := lw_g (lw_at lw_m6 170 rfl) rfl
theorem q1452 : (Jvm.Cond.code ({ cls := "SandPianoModel", name := "layBest", desc := "(II)V" } : Jvm.MethodName) prog_11_method_74_code (4 : Nat) (Option.none : Option Jvm.ClassFile.FieldType)) ∈ lw_all := lw_g (lw_at lw_m6 171 rfl) rfl
theorem q1454 : (Jvm.Cond.instanceMethod ({ cls := "SandPianoModel", name := "rows", desc := "(I)I" } : Jvm.MethodName)) ∈ lw_all := lw_g (lw_at lw_m6 173 rfl) rfl
theorem q1455 : (Jvm.Cond.selects "SandPianoModel" ({ cls := "SandPianoModel", name := "rows", desc := "(I)I" } : Jvm.MethodName) ({ cls := "SandPianoModel", name := "rows", desc := "(I)I" } : Jvm.MethodName)) ∈ lw_all := lw_g (lw_at lw_m6 174 rfl) rfl
theorem q1456 : (Jvm.Cond.code ({ cls := "SandPianoModel", name := "rows", desc := "(I)I" } : Jvm.MethodName) prog_11_method_78_code (2 : Nat) (Option.some Jvm.ClassFile.FieldType.int)) ∈ lw_all := lw_g (lw_at lw_m6 175 rfl) rfl
theorem q1457 : (Jvm.Cond.methodLink "SandPianoModel" (253 : Nat) ({ cls := "SandPianoModel", name := "layRows", desc := "(II)V" } : Jvm.MethodName)) ∈ lw_all := lw_g (lw_at lw_m6 176 rfl) rfl
theorem q1458 : (Jvm.Cond.privateMethod ({ cls := "SandPianoModel", name := "layRows", desc := "(II)V" } : Jvm.MethodName)) ∈ lw_tbl := lw_at lw_m6 177 rfl
theorem q1459 : (Jvm.Cond.instanceMethod ({ cls := "SandPianoModel", name := "layRows", desc := "(II)V" } : Jvm.MethodName)) ∈ lw_all := lw_g (lw_at lw_m6 178 rfl) rfl
theorem q1460 : (Jvm.Cond.code ({ cls := "SandPianoModel", name := "layRows", desc := "(II)V" } : Jvm.MethodName) prog_11_method_77_code (4 : Nat) (Option.none : Option Jvm.ClassFile.FieldType)) ∈ lw_all := lw_g (lw_at lw_m6 179 rfl) rfl
theorem q1461 : (Jvm.Cond.methodLink "SandPianoModel" (250 : Nat) ({ cls := "SandPianoModel", name := "meetSand", desc := "(I)V" } : Jvm.MethodName)) ∈ lw_all := lw_g (lw_at lw_m6 180 rfl) rfl
theorem q1462 : (Jvm.Cond.privateMethod ({ cls := "SandPianoModel", name := "meetSand", desc := "(I)V" } : Jvm.MethodName)) ∈ lw_tbl := lw_at lw_m6 181 rfl
theorem q1463 : (Jvm.Cond.instanceMethod ({ cls := "SandPianoModel", name := "meetSand", desc := "(I)V" } : Jvm.MethodName)) ∈ lw_all := lw_g (lw_at lw_m6 182 rfl) rfl
theorem q1464 : (Jvm.Cond.code ({ cls := "SandPianoModel", name := "meetSand", desc := "(I)V" } : Jvm.MethodName) prog_11_method_76_code (6 : Nat) (Option.none : Option Jvm.ClassFile.FieldType)) ∈ lw_all := lw_g (lw_at lw_m6 183 rfl) rfl
theorem q1466 : (Jvm.Cond.instanceMethod ({ cls := "SandPianoModel", name := "back", desc := "(III)I" } : Jvm.MethodName)) ∈ lw_all := lw_g (lw_at lw_m6 185 rfl) rfl
theorem q1467 : (Jvm.Cond.selects "SandPianoModel" ({ cls := "SandPianoModel", name := "back", desc := "(III)I" } : Jvm.MethodName) ({ cls := "SandPianoModel", name := "back", desc := "(III)I" } : Jvm.MethodName)) ∈ lw_all := lw_g (lw_at lw_m6 186 rfl) rfl
theorem q1468 : (Jvm.Cond.code ({ cls := "SandPianoModel", name := "back", desc := "(III)I" } : Jvm.MethodName) prog_11_method_81_code (6 : Nat) (Option.some Jvm.ClassFile.FieldType.int)) ∈ lw_all := lw_g (lw_at lw_m6 187 rfl) rfl
theorem q1469 : (Jvm.Cond.methodLink "SandPianoModel" (259 : Nat) ({ cls := "SandPianoModel", name := "layBack", desc := "(II)V" } : Jvm.MethodName)) ∈ lw_all := lw_g (lw_at lw_m6 188 rfl) rfl
theorem q1470 : (Jvm.Cond.privateMethod ({ cls := "SandPianoModel", name := "layBack", desc := "(II)V" } : Jvm.MethodName)) ∈ lw_tbl := lw_at lw_m6 189 rfl
theorem q1471 : (Jvm.Cond.instanceMethod ({ cls := "SandPianoModel", name := "layBack", desc := "(II)V" } : Jvm.MethodName)) ∈ lw_all := lw_g (lw_at lw_m6 190 rfl) rfl
theorem q1472 : (Jvm.Cond.code ({ cls := "SandPianoModel", name := "layBack", desc := "(II)V" } : Jvm.MethodName) prog_11_method_80_code (4 : Nat) (Option.none : Option Jvm.ClassFile.FieldType)) ∈ lw_all := lw_g (lw_at lw_m6 191 rfl) rfl
theorem q1473 : (Jvm.Cond.methodLink "SandPianoModel" (256 : Nat) ({ cls := "SandPianoModel", name := "isNow", desc := "(I)Z" } : Jvm.MethodName)) ∈ lw_all := lw_g (lw_at lw_m6 192 rfl) rfl
theorem q1474 : (Jvm.Cond.privateMethod ({ cls := "SandPianoModel", name := "isNow", desc := "(I)Z" } : Jvm.MethodName)) ∈ lw_tbl := lw_at lw_m6 193 rfl
theorem q1475 : (Jvm.Cond.instanceMethod ({ cls := "SandPianoModel", name := "isNow", desc := "(I)Z" } : Jvm.MethodName)) ∈ lw_all := lw_g (lw_at lw_m6 194 rfl) rfl
theorem q1476 : (Jvm.Cond.code ({ cls := "SandPianoModel", name := "isNow", desc := "(I)Z" } : Jvm.MethodName) prog_11_method_79_code (4 : Nat) (Option.some Jvm.ClassFile.FieldType.boolean)) ∈ lw_all := lw_g (lw_at lw_m6 195 rfl) rfl
theorem q1478 : (Jvm.Cond.instanceMethod ({ cls := "SandPianoModel", name := "ring", desc := "(I)I" } : Jvm.MethodName)) ∈ lw_all := lw_g (lw_at lw_m6 197 rfl) rfl
theorem q1479 : (Jvm.Cond.selects "SandPianoModel" ({ cls := "SandPianoModel", name := "ring", desc := "(I)I" } : Jvm.MethodName) ({ cls := "SandPianoModel", name := "ring", desc := "(I)I" } : Jvm.MethodName)) ∈ lw_all := lw_g (lw_at lw_m6 198 rfl) rfl
theorem q1480 : (Jvm.Cond.code ({ cls := "SandPianoModel", name := "ring", desc := "(I)I" } : Jvm.MethodName) prog_11_method_85_code (3 : Nat) (Option.some Jvm.ClassFile.FieldType.int)) ∈ lw_all := lw_g (lw_at lw_m6 199 rfl) rfl
theorem q1481 : (Jvm.Cond.methodLink "SandPianoModel" (265 : Nat) ({ cls := "SandPianoModel", name := "needPairs", desc := "(I)I" } : Jvm.MethodName)) ∈ lw_all := lw_g (lw_at lw_m6 200 rfl) rfl
theorem q1482 : (Jvm.Cond.privateMethod ({ cls := "SandPianoModel", name := "needPairs", desc := "(I)I" } : Jvm.MethodName)) ∈ lw_tbl := lw_at lw_m6 201 rfl
theorem q1483 : (Jvm.Cond.instanceMethod ({ cls := "SandPianoModel", name := "needPairs", desc := "(I)I" } : Jvm.MethodName)) ∈ lw_all := lw_g (lw_at lw_m6 202 rfl) rfl
theorem q1484 : (Jvm.Cond.code ({ cls := "SandPianoModel", name := "needPairs", desc := "(I)I" } : Jvm.MethodName) prog_11_method_82_code (4 : Nat) (Option.some Jvm.ClassFile.FieldType.int)) ∈ lw_all := lw_g (lw_at lw_m6 203 rfl) rfl
theorem q1485 : (Jvm.Cond.methodLink "SandPianoModel" (268 : Nat) ({ cls := "SandPianoModel", name := "underSet", desc := "(I)I" } : Jvm.MethodName)) ∈ lw_all := lw_g (lw_at lw_m6 204 rfl) rfl
theorem q1486 : (Jvm.Cond.privateMethod ({ cls := "SandPianoModel", name := "underSet", desc := "(I)I" } : Jvm.MethodName)) ∈ lw_tbl := lw_at lw_m6 205 rfl
theorem q1487 : (Jvm.Cond.instanceMethod ({ cls := "SandPianoModel", name := "underSet", desc := "(I)I" } : Jvm.MethodName)) ∈ lw_all := lw_g (lw_at lw_m6 206 rfl) rfl
theorem q1488 : (Jvm.Cond.code ({ cls := "SandPianoModel", name := "underSet", desc := "(I)I" } : Jvm.MethodName) prog_11_method_84_code (6 : Nat) (Option.some Jvm.ClassFile.FieldType.int)) ∈ lw_all := lw_g (lw_at lw_m6 207 rfl) rfl
theorem q1489 : (Jvm.Cond.methodLink "SandPianoModel" (262 : Nat) ({ cls := "SandPianoModel", name := "sings", desc := "(II)Z" } : Jvm.MethodName)) ∈ lw_all := lw_g (lw_at lw_m6 208 rfl) rfl
theorem q1490 : (Jvm.Cond.static ({ cls := "SandPianoModel", name := "sings", desc := "(II)Z" } : Jvm.MethodName)) ∈ lw_all := lw_g (lw_at lw_m6 209 rfl) rfl
theorem q1491 : (Jvm.Cond.code ({ cls := "SandPianoModel", name := "sings", desc := "(II)Z" } : Jvm.MethodName) prog_11_method_83_code (2 : Nat) (Option.some Jvm.ClassFile.FieldType.boolean)) ∈ lw_all := lw_g (lw_at lw_m6 210 rfl) rfl
theorem q1493 : (Jvm.Cond.instanceMethod ({ cls := "SandPianoModel", name := "strike", desc := "(I)I" } : Jvm.MethodName)) ∈ lw_all := lw_g (lw_at lw_m6 212 rfl) rfl
theorem q1494 : (Jvm.Cond.selects "SandPianoModel" ({ cls := "SandPianoModel", name := "strike", desc := "(I)I" } : Jvm.MethodName) ({ cls := "SandPianoModel", name := "strike", desc := "(I)I" } : Jvm.MethodName)) ∈ lw_all := lw_g (lw_at lw_m6 213 rfl) rfl
theorem q1495 : (Jvm.Cond.code ({ cls := "SandPianoModel", name := "strike", desc := "(I)I" } : Jvm.MethodName) prog_11_method_86_code (9 : Nat) (Option.some Jvm.ClassFile.FieldType.int)) ∈ lw_all := lw_g (lw_at lw_m6 214 rfl) rfl
theorem q1497 : (Jvm.Cond.instanceMethod ({ cls := "SandPianoModel", name := "tune", desc := "(I)I" } : Jvm.MethodName)) ∈ lw_all := lw_g (lw_at lw_m6 216 rfl) rfl
theorem q1498 : (Jvm.Cond.selects "SandPianoModel" ({ cls := "SandPianoModel", name := "tune", desc := "(I)I" } : Jvm.MethodName) ({ cls := "SandPianoModel", name := "tune", desc := "(I)I" } : Jvm.MethodName)) ∈ lw_all := lw_g (lw_at lw_m6 217 rfl) rfl
theorem q1499 : (Jvm.Cond.code ({ cls := "SandPianoModel", name := "tune", desc := "(I)I" } : Jvm.MethodName) prog_11_method_87_code (6 : Nat) (Option.some Jvm.ClassFile.FieldType.int)) ∈ lw_all := lw_g (lw_at lw_m6 218 rfl) rfl
theorem q1500 : (Jvm.Cond.methodLink "SandPianoModel" (271 : Nat) ({ cls := "SandPianoModel", name := "part", desc := "(JJ)I" } : Jvm.MethodName)) ∈ lw_all := lw_g (lw_at lw_m6 219 rfl) rfl
theorem q1501 : (Jvm.Cond.privateMethod ({ cls := "SandPianoModel", name := "part", desc := "(JJ)I" } : Jvm.MethodName)) ∈ lw_tbl := lw_at lw_m6 220 rfl
theorem q1502 : (Jvm.Cond.instanceMethod ({ cls := "SandPianoModel", name := "part", desc := "(JJ)I" } : Jvm.MethodName)) ∈ lw_all := lw_g (lw_at lw_m6 221 rfl) rfl
theorem q1503 : (Jvm.Cond.code ({ cls := "SandPianoModel", name := "part", desc := "(JJ)I" } : Jvm.MethodName) prog_11_method_12_code (11 : Nat) (Option.some Jvm.ClassFile.FieldType.int)) ∈ lw_all := lw_g (lw_at lw_m6 222 rfl) rfl
theorem q1505 : (Jvm.Cond.instanceMethod ({ cls := "SandPianoModel", name := "bet", desc := "(II)I" } : Jvm.MethodName)) ∈ lw_all := lw_g (lw_at lw_m6 224 rfl) rfl
theorem q1506 : (Jvm.Cond.selects "SandPianoModel" ({ cls := "SandPianoModel", name := "bet", desc := "(II)I" } : Jvm.MethodName) ({ cls := "SandPianoModel", name := "bet", desc := "(II)I" } : Jvm.MethodName)) ∈ lw_all := lw_g (lw_at lw_m6 225 rfl) rfl
theorem q1507 : (Jvm.Cond.code ({ cls := "SandPianoModel", name := "bet", desc := "(II)I" } : Jvm.MethodName) prog_11_method_89_code (6 : Nat) (Option.some Jvm.ClassFile.FieldType.int)) ∈ lw_all := lw_g (lw_at lw_m6 226 rfl) rfl
theorem q1508 : (Jvm.Cond.constantLong "SandPianoModel" (279 : Nat) (60 : Int64)) ∈ lw_all := lw_g (lw_at lw_m6 227 rfl) rfl
theorem q1509 : (Jvm.Cond.methodLink "SandPianoModel" (275 : Nat) ({ cls := "SandPianoModel", name := "betFrom", desc := "(IIIJ)J" } : Jvm.MethodName)) ∈ lw_all := lw_g (lw_at lw_m6 228 rfl) rfl
theorem q1510 : (Jvm.Cond.privateMethod ({ cls := "SandPianoModel", name := "betFrom", desc := "(IIIJ)J" } : Jvm.MethodName)) ∈ lw_tbl := lw_at lw_m6 229 rfl
theorem q1511 : (Jvm.Cond.instanceMethod ({ cls := "SandPianoModel", name := "betFrom", desc := "(IIIJ)J" } : Jvm.MethodName)) ∈ lw_all := lw_g (lw_at lw_m6 230 rfl) rfl
theorem q1512 : (Jvm.Cond.code ({ cls := "SandPianoModel", name := "betFrom", desc := "(IIIJ)J" } : Jvm.MethodName) prog_11_method_88_code (10 : Nat) (Option.some Jvm.ClassFile.FieldType.long)) ∈ lw_all := lw_g (lw_at lw_m6 231 rfl) rfl
theorem q1514 : (Jvm.Cond.instanceMethod ({ cls := "SandPianoModel", name := "wind", desc := "(II)I" } : Jvm.MethodName)) ∈ lw_all := lw_g (lw_at lw_m6 233 rfl) rfl
theorem q1515 : (Jvm.Cond.selects "SandPianoModel" ({ cls := "SandPianoModel", name := "wind", desc := "(II)I" } : Jvm.MethodName) ({ cls := "SandPianoModel", name := "wind", desc := "(II)I" } : Jvm.MethodName)) ∈ lw_all := lw_g (lw_at lw_m6 234 rfl) rfl
theorem q1516 : (Jvm.Cond.code ({ cls := "SandPianoModel", name := "wind", desc := "(II)I" } : Jvm.MethodName) prog_11_method_90_code (9 : Nat) (Option.some Jvm.ClassFile.FieldType.int)) ∈ lw_all := lw_g (lw_at lw_m6 235 rfl) rfl
theorem q1517 : (Jvm.Cond.constant "SandPianoModel" (281 : Nat) (2147483646 : Int32)) ∈ lw_all := lw_g (lw_at lw_m6 236 rfl) rfl
theorem q1518 : (Jvm.Cond.constantLong "SandPianoModel" (282 : Nat) (48271 : Int64)) ∈ lw_all := lw_g (lw_at lw_m6 237 rfl) rfl
theorem q1519 : (Jvm.Cond.constantLong "SandPianoModel" (284 : Nat) (2147483647 : Int64)) ∈ lw_all := lw_g (lw_at lw_m6 238 rfl) rfl
theorem q1521 : (Jvm.Cond.instanceMethod ({ cls := "SandPianoModel", name := "count", desc := "(I)I" } : Jvm.MethodName)) ∈ lw_all := lw_g (lw_at lw_m7 0 rfl) rfl
theorem q1522 : (Jvm.Cond.selects "SandPianoModel" ({ cls := "SandPianoModel", name := "count", desc := "(I)I" } : Jvm.MethodName) ({ cls := "SandPianoModel", name := "count", desc := "(I)I" } : Jvm.MethodName)) ∈ lw_all := lw_g (lw_at lw_m7 1 rfl) rfl
theorem q1523 : (Jvm.Cond.code ({ cls := "SandPianoModel", name := "count", desc := "(I)I" } : Jvm.MethodName) prog_11_method_92_code (2 : Nat) (Option.some Jvm.ClassFile.FieldType.int)) ∈ lw_all := lw_g (lw_at lw_m7 2 rfl) rfl
theorem q1524 : (Jvm.Cond.methodLink "SandPianoModel" (286 : Nat) ({ cls := "SandPianoModel", name := "counted", desc := "(I)I" } : Jvm.MethodName)) ∈ lw_all := lw_g (lw_at lw_m7 3 rfl) rfl
theorem q1525 : (Jvm.Cond.privateMethod ({ cls := "SandPianoModel", name := "counted", desc := "(I)I" } : Jvm.MethodName)) ∈ lw_tbl := lw_at lw_m7 4 rfl
theorem q1526 : (Jvm.Cond.instanceMethod ({ cls := "SandPianoModel", name := "counted", desc := "(I)I" } : Jvm.MethodName)) ∈ lw_all := lw_g (lw_at lw_m7 5 rfl) rfl
theorem q1527 : (Jvm.Cond.code ({ cls := "SandPianoModel", name := "counted", desc := "(I)I" } : Jvm.MethodName) prog_11_method_91_code (4 : Nat) (Option.some Jvm.ClassFile.FieldType.int)) ∈ lw_all := lw_g (lw_at lw_m7 6 rfl) rfl
theorem q1529 : (Jvm.Cond.instanceMethod ({ cls := "SandPianoModel", name := "digest", desc := "()J" } : Jvm.MethodName)) ∈ lw_all := lw_g (lw_at lw_m7 8 rfl) rfl
theorem q1530 : (Jvm.Cond.selects "SandPianoModel" ({ cls := "SandPianoModel", name := "digest", desc := "()J" } : Jvm.MethodName) ({ cls := "SandPianoModel", name := "digest", desc := "()J" } : Jvm.MethodName)) ∈ lw_all := lw_g (lw_at lw_m7 9 rfl) rfl
theorem q1531 : (Jvm.Cond.code ({ cls := "SandPianoModel", name := "digest", desc := "()J" } : Jvm.MethodName) prog_11_method_95_code (3 : Nat) (Option.some Jvm.ClassFile.FieldType.long)) ∈ lw_all := lw_g (lw_at lw_m7 10 rfl) rfl
theorem q1532 : (Jvm.Cond.constantLong "SandPianoModel" (300 : Nat) (17 : Int64)) ∈ lw_all := lw_g (lw_at lw_m7 11 rfl) rfl
theorem q1533 : (Jvm.Cond.methodLink "SandPianoModel" (294 : Nat) ({ cls := "SandPianoModel", name := "mix", desc := "(J)V" } : Jvm.MethodName)) ∈ lw_all := lw_g (lw_at lw_m7 12 rfl) rfl
theorem q1534 : (Jvm.Cond.privateMethod ({ cls := "SandPianoModel", name := "mix", desc := "(J)V" } : Jvm.MethodName)) ∈ lw_tbl := lw_at lw_m7 13 rfl
theorem q1535 : (Jvm.Cond.instanceMethod ({ cls := "SandPianoModel", name := "mix", desc := "(J)V" } : Jvm.MethodName)) ∈ lw_all := lw_g (lw_at lw_m7 14 rfl) rfl
theorem q1536 : (Jvm.Cond.code ({ cls := "SandPianoModel", name := "mix", desc := "(J)V" } : Jvm.MethodName) prog_11_method_93_code (3 : Nat) (Option.none : Option Jvm.ClassFile.FieldType)) ∈ lw_all := lw_g (lw_at lw_m7 15 rfl) rfl
theorem q1537 : (Jvm.Cond.constantLong "SandPianoModel" (289 : Nat) (31 : Int64)) ∈ lw_all := lw_g (lw_at lw_m7 16 rfl) rfl
theorem q1538 : (Jvm.Cond.methodLink "SandPianoModel" (302 : Nat) ({ cls := "SandPianoModel", name := "mixPiano", desc := "()V" } : Jvm.MethodName)) ∈ lw_all := lw_g (lw_at lw_m7 17 rfl) rfl
theorem q1539 : (Jvm.Cond.privateMethod ({ cls := "SandPianoModel", name := "mixPiano", desc := "()V" } : Jvm.MethodName)) ∈ lw_tbl := lw_at lw_m7 18 rfl
theorem q1540 : (Jvm.Cond.instanceMethod ({ cls := "SandPianoModel", name := "mixPiano", desc := "()V" } : Jvm.MethodName)) ∈ lw_all := lw_g (lw_at lw_m7 19 rfl) rfl
theorem q1541 : (Jvm.Cond.code ({ cls := "SandPianoModel", name := "mixPiano", desc := "()V" } : Jvm.MethodName) prog_11_method_94_code (3 : Nat) (Option.none : Option Jvm.ClassFile.FieldType)) ∈ lw_all := lw_g (lw_at lw_m7 20 rfl) rfl
theorem q1542 : (Jvm.Cond.constantLong "SandPianoModel" (298 : Nat) (-1 : Int64)) ∈ lw_all := lw_g (lw_at lw_m7 21 rfl) rfl
theorem in_X2 : ∀ w ∈ wsX20, w ∈ lw_all := lw_in wsX20 [1095, 1097, 1099, 1101, 1103, 1105, 1107, 1109, 1111, 1113, 1115, 1117, 1119, 1121, 1123, 1125, 1127, 1129, 1131, 1133, 1135, 1137, 1139, 1141, 1143, 1145, 1147, 1149, 1151, 1153, 1155, 1157, 1159, 1161, 1163, 1165] (by decide +kernel) (by decide +kernel)
