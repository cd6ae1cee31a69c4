/-! SandPiano -/
set_option maxRecDepth 100000
def RX0 : String := "SandPiano"
def TX0 : u_T := fun k => match k with
  | 0 => ("SandPiano", "finding", "I", false)
  | 1 => ("SandPiano", "findings", "[I", true)
  | 2 => ("SandPiano", "asked", "I", false)
  | 3 => ("SandPiano", "upper", "J", false)
  | 4 => ("SandPiano", "lower", "J", false)
  | 5 => ("SandPiano", "rows", "[[I", true)
  | 6 => ("SandPiano", "texts", "[[B", true)
  | 7 => ("SandPiano", "many", "I", false)
  | 8 => ("SandPiano", "spade", "I", false)
  | 9 => ("SandPiano", "keys", "[LSandPiano$Key;", true)
  | 10 => ("SandPiano", "sands", "LSandPiano$Sands;", true)
  | 11 => ("SandPiano", "reading", "[B", false)
  | 12 => ("SandPiano", "readAt", "I", false)
  | 13 => ("SandPiano", "readSpade", "I", false)
  | 14 => ("SandPiano", "readMany", "I", false)
  | 15 => ("SandPiano", "readKinds", "[I", true)
  | 16 => ("SandPiano", "readStrengths", "[I", true)
  | 17 => ("SandPiano", "readSands", "[I", true)
  | 18 => ("SandPiano", "readPays", "[I", true)
  | 19 => ("SandPiano", "deedMany", "I", false)
  | 20 => ("SandPiano", "ahead", "[I", true)
  | 21 => ("SandPiano", "kept", "[LSandPiano$Kept;", true)
  | 22 => ("SandPiano", "aside", "LSandPiano$Sands;", true)
  | 23 => ("SandPiano", "other", "LSandPiano$Sands;", true)
  | 24 => ("SandPiano", "dug", "[I", true)
  | 25 => ("SandPiano", "depth", "[LSandPiano$Sands;", true)
  | 26 => ("SandPiano", "notes", "[I", true)
  | 27 => ("SandPiano", "bestNotes", "[I", true)
  | 28 => ("SandPiano", "bestMany", "I", false)
  | 29 => ("SandPiano", "bestPay", "I", false)
  | 30 => ("SandPiano", "left", "[I", true)
  | 31 => ("SandPiano", "leftMany", "I", false)
  | 32 => ("SandPiano", "rowMany", "I", false)
  | 33 => ("SandPiano", "backMany", "I", false)
  | 34 => ("SandPiano", "betSum", "J", false)
  | _ => ("SandPiano", "h0", "J", false)
def tyX0 : Nat → FieldType := fun k => match k with
  | 0 => .int
  | 1 => .array .int
  | 2 => .int
  | 3 => .long
  | 4 => .long
  | 5 => .array (.array .int)
  | 6 => .array (.array .byte)
  | 7 => .int
  | 8 => .int
  | 9 => .array (.object "SandPiano$Key")
  | 10 => .object "SandPiano$Sands"
  | 11 => .array .byte
  | 12 => .int
  | 13 => .int
  | 14 => .int
  | 15 => .array .int
  | 16 => .array .int
  | 17 => .array .int
  | 18 => .array .int
  | 19 => .int
  | 20 => .array .int
  | 21 => .array (.object "SandPiano$Kept")
  | 22 => .object "SandPiano$Sands"
  | 23 => .object "SandPiano$Sands"
  | 24 => .array .int
  | 25 => .array (.object "SandPiano$Sands")
  | 26 => .array .int
  | 27 => .array .int
  | 28 => .int
  | 29 => .int
  | 30 => .array .int
  | 31 => .int
  | 32 => .int
  | 33 => .int
  | 34 => .long
  | _ => .long
abbrev wsX00 : List Cond := u_ws RX0 TX0 36
set_option maxRecDepth 100000 in
theorem nmX0 : ∀ a, a < 36 → ∀ b, b < 36 → a ≠ b → (TX0 a).2.1 ≠ (TX0 b).2.1 := by decide +kernel
set_option maxRecDepth 100000 in
theorem tyX0_ok : ∀ k, k < 36 → parseFieldDescriptor (TX0 k).2.2.1 = some (tyX0 k) := by decide +kernel
abbrev cX0_init : ByteArray := prog_1_method_7_code
def yX0_init : MethodName := ⟨RX0, "<init>", "()V"⟩
def dkwX0_init_7 : List UInt8 := [181, 0, 102, 177]
abbrev dktX0_init_7 : List UInt8 := dkwX0_init_7 ++ []
def dkwX0_init_6 : List UInt8 := [188, 10, 181, 0, 93, 42, 16, 6, 188, 10, 181, 0, 96, 42, 17, 30, 96, 188, 10, 181, 0, 99, 42, 4]
abbrev dktX0_init_6 : List UInt8 := dkwX0_init_6 ++ dktX0_init_7
def dkwX0_init_5 : List UInt8 := [183, 0, 50, 181, 0, 79, 42, 7, 188, 10, 181, 0, 82, 42, 184, 0, 85, 181, 0, 89, 42, 16, 6]
abbrev dktX0_init_5 : List UInt8 := dkwX0_init_5 ++ dktX0_init_6
def dkwX0_init_4 : List UInt8 := [42, 6, 189, 0, 70, 181, 0, 72, 42, 187, 0, 48, 89, 183, 0, 50, 181, 0, 76, 42, 187, 0, 48, 89]
abbrev dktX0_init_4 : List UInt8 := dkwX0_init_4 ++ dktX0_init_5
def dkwX0_init_3 : List UInt8 := [16, 6, 188, 10, 181, 0, 61, 42, 16, 6, 188, 10, 181, 0, 64, 42, 17, 2, 28, 188, 10, 181, 0, 67]
abbrev dktX0_init_3 : List UInt8 := dkwX0_init_3 ++ dktX0_init_4
def dkwX0_init_2 : List UInt8 := [89, 183, 0, 50, 181, 0, 51, 42, 16, 6, 188, 10, 181, 0, 55, 42, 16, 6, 188, 10, 181, 0, 58, 42]
abbrev dktX0_init_2 : List UInt8 := dkwX0_init_2 ++ dktX0_init_3
def dkwX0_init_1 : List UInt8 := [181, 0, 32, 42, 7, 189, 0, 36, 181, 0, 38, 42, 16, 6, 189, 0, 42, 181, 0, 44, 42, 187, 0, 48]
abbrev dktX0_init_1 : List UInt8 := dkwX0_init_1 ++ dktX0_init_2
def dkwX0_init_0 : List UInt8 := [42, 183, 0, 25, 42, 16, 6, 188, 10, 181, 0, 7, 42, 10, 181, 0, 22, 42, 16, 6, 189, 0, 31]
abbrev dktX0_init_0 : List UInt8 := dkwX0_init_0 ++ dktX0_init_1
theorem dksX0_init_0 : cX0_init.data.toList.drop 0 = dktX0_init_0 := by decide +kernel
theorem dksX0_init_1 : cX0_init.data.toList.drop 23 = dktX0_init_1 := dk_seg dksX0_init_0 23 rfl rfl
theorem dksX0_init_2 : cX0_init.data.toList.drop 47 = dktX0_init_2 := dk_seg dksX0_init_1 24 rfl rfl
theorem dksX0_init_3 : cX0_init.data.toList.drop 71 = dktX0_init_3 := dk_seg dksX0_init_2 24 rfl rfl
theorem dksX0_init_4 : cX0_init.data.toList.drop 95 = dktX0_init_4 := dk_seg dksX0_init_3 24 rfl rfl
theorem dksX0_init_5 : cX0_init.data.toList.drop 119 = dktX0_init_5 := dk_seg dksX0_init_4 24 rfl rfl
theorem dksX0_init_6 : cX0_init.data.toList.drop 142 = dktX0_init_6 := dk_seg dksX0_init_5 23 rfl rfl
theorem dksX0_init_7 : cX0_init.data.toList.drop 166 = dktX0_init_7 := dk_seg dksX0_init_6 24 rfl rfl
theorem dX0_init_0 : decode cX0_init 0 = .ok (.aload_n 0, 1) := dk_42 (dk_at dksX0_init_0 0 rfl rfl)
theorem dX0_init_1 : decode cX0_init 1 = .ok (.invokespecial 25, 3) := dk_183 0 25 (dk_at dksX0_init_0 1 rfl rfl)
theorem dX0_init_4 : decode cX0_init 4 = .ok (.aload_n 0, 1) := dk_42 (dk_at dksX0_init_0 4 rfl rfl)
theorem dX0_init_5 : decode cX0_init 5 = .ok (.bipush 6, 2) := dk_16 6 (dk_at dksX0_init_0 5 rfl rfl)
theorem dX0_init_7 : decode cX0_init 7 = .ok (.newarray .int, 2) := dk_188_10 (dk_at dksX0_init_0 7 rfl rfl)
theorem dX0_init_9 : decode cX0_init 9 = .ok (.putfield 7, 3) := dk_181 0 7 (dk_at dksX0_init_0 9 rfl rfl)
theorem dX0_init_12 : decode cX0_init 12 = .ok (.aload_n 0, 1) := dk_42 (dk_at dksX0_init_0 12 rfl rfl)
theorem dX0_init_13 : decode cX0_init 13 = .ok (.lconst 1, 1) := dk_10 (dk_at dksX0_init_0 13 rfl rfl)
theorem dX0_init_14 : decode cX0_init 14 = .ok (.putfield 22, 3) := dk_181 0 22 (dk_at dksX0_init_0 14 rfl rfl)
theorem dX0_init_17 : decode cX0_init 17 = .ok (.aload_n 0, 1) := dk_42 (dk_at dksX0_init_0 17 rfl rfl)
theorem dX0_init_18 : decode cX0_init 18 = .ok (.bipush 6, 2) := dk_16 6 (dk_at dksX0_init_0 18 rfl rfl)
theorem dX0_init_20 : decode cX0_init 20 = .ok (.anewarray 31, 3) := dk_189 0 31 (dk_at dksX0_init_0 20 rfl rfl)
theorem dX0_init_23 : decode cX0_init 23 = .ok (.putfield 32, 3) := dk_181 0 32 (dk_at dksX0_init_1 0 rfl rfl)
theorem dX0_init_26 : decode cX0_init 26 = .ok (.aload_n 0, 1) := dk_42 (dk_at dksX0_init_1 3 rfl rfl)
theorem dX0_init_27 : decode cX0_init 27 = .ok (.iconst 4, 1) := dk_7 (dk_at dksX0_init_1 4 rfl rfl)
theorem dX0_init_28 : decode cX0_init 28 = .ok (.anewarray 36, 3) := dk_189 0 36 (dk_at dksX0_init_1 5 rfl rfl)
theorem dX0_init_31 : decode cX0_init 31 = .ok (.putfield 38, 3) := dk_181 0 38 (dk_at dksX0_init_1 8 rfl rfl)
theorem dX0_init_34 : decode cX0_init 34 = .ok (.aload_n 0, 1) := dk_42 (dk_at dksX0_init_1 11 rfl rfl)
theorem dX0_init_35 : decode cX0_init 35 = .ok (.bipush 6, 2) := dk_16 6 (dk_at dksX0_init_1 12 rfl rfl)
theorem dX0_init_37 : decode cX0_init 37 = .ok (.anewarray 42, 3) := dk_189 0 42 (dk_at dksX0_init_1 14 rfl rfl)
theorem dX0_init_40 : decode cX0_init 40 = .ok (.putfield 44, 3) := dk_181 0 44 (dk_at dksX0_init_1 17 rfl rfl)
theorem dX0_init_43 : decode cX0_init 43 = .ok (.aload_n 0, 1) := dk_42 (dk_at dksX0_init_1 20 rfl rfl)
theorem dX0_init_44 : decode cX0_init 44 = .ok (.new 48, 3) := dk_187 0 48 (dk_at dksX0_init_1 21 rfl rfl)
theorem dX0_init_47 : decode cX0_init 47 = .ok (.dup, 1) := dk_89 (dk_at dksX0_init_2 0 rfl rfl)
theorem dX0_init_48 : decode cX0_init 48 = .ok (.invokespecial 50, 3) := dk_183 0 50 (dk_at dksX0_init_2 1 rfl rfl)
theorem dX0_init_51 : decode cX0_init 51 = .ok (.putfield 51, 3) := dk_181 0 51 (dk_at dksX0_init_2 4 rfl rfl)
theorem dX0_init_54 : decode cX0_init 54 = .ok (.aload_n 0, 1) := dk_42 (dk_at dksX0_init_2 7 rfl rfl)
theorem dX0_init_55 : decode cX0_init 55 = .ok (.bipush 6, 2) := dk_16 6 (dk_at dksX0_init_2 8 rfl rfl)
theorem dX0_init_57 : decode cX0_init 57 = .ok (.newarray .int, 2) := dk_188_10 (dk_at dksX0_init_2 10 rfl rfl)
theorem dX0_init_59 : decode cX0_init 59 = .ok (.putfield 55, 3) := dk_181 0 55 (dk_at dksX0_init_2 12 rfl rfl)
theorem dX0_init_62 : decode cX0_init 62 = .ok (.aload_n 0, 1) := dk_42 (dk_at dksX0_init_2 15 rfl rfl)
theorem dX0_init_63 : decode cX0_init 63 = .ok (.bipush 6, 2) := dk_16 6 (dk_at dksX0_init_2 16 rfl rfl)
theorem dX0_init_65 : decode cX0_init 65 = .ok (.newarray .int, 2) := dk_188_10 (dk_at dksX0_init_2 18 rfl rfl)
theorem dX0_init_67 : decode cX0_init 67 = .ok (.putfield 58, 3) := dk_181 0 58 (dk_at dksX0_init_2 20 rfl rfl)
theorem dX0_init_70 : decode cX0_init 70 = .ok (.aload_n 0, 1) := dk_42 (dk_at dksX0_init_2 23 rfl rfl)
theorem dX0_init_71 : decode cX0_init 71 = .ok (.bipush 6, 2) := dk_16 6 (dk_at dksX0_init_3 0 rfl rfl)
theorem dX0_init_73 : decode cX0_init 73 = .ok (.newarray .int, 2) := dk_188_10 (dk_at dksX0_init_3 2 rfl rfl)
theorem dX0_init_75 : decode cX0_init 75 = .ok (.putfield 61, 3) := dk_181 0 61 (dk_at dksX0_init_3 4 rfl rfl)
theorem dX0_init_78 : decode cX0_init 78 = .ok (.aload_n 0, 1) := dk_42 (dk_at dksX0_init_3 7 rfl rfl)
theorem dX0_init_79 : decode cX0_init 79 = .ok (.bipush 6, 2) := dk_16 6 (dk_at dksX0_init_3 8 rfl rfl)
theorem dX0_init_81 : decode cX0_init 81 = .ok (.newarray .int, 2) := dk_188_10 (dk_at dksX0_init_3 10 rfl rfl)
theorem dX0_init_83 : decode cX0_init 83 = .ok (.putfield 64, 3) := dk_181 0 64 (dk_at dksX0_init_3 12 rfl rfl)
theorem dX0_init_86 : decode cX0_init 86 = .ok (.aload_n 0, 1) := dk_42 (dk_at dksX0_init_3 15 rfl rfl)
theorem dX0_init_87 : decode cX0_init 87 = .ok (.sipush 540, 3) := dk_17 2 28 (dk_at dksX0_init_3 16 rfl rfl)
theorem dX0_init_90 : decode cX0_init 90 = .ok (.newarray .int, 2) := dk_188_10 (dk_at dksX0_init_3 19 rfl rfl)
theorem dX0_init_92 : decode cX0_init 92 = .ok (.putfield 67, 3) := dk_181 0 67 (dk_at dksX0_init_3 21 rfl rfl)
theorem dX0_init_95 : decode cX0_init 95 = .ok (.aload_n 0, 1) := dk_42 (dk_at dksX0_init_4 0 rfl rfl)
theorem dX0_init_96 : decode cX0_init 96 = .ok (.iconst 3, 1) := dk_6 (dk_at dksX0_init_4 1 rfl rfl)
theorem dX0_init_97 : decode cX0_init 97 = .ok (.anewarray 70, 3) := dk_189 0 70 (dk_at dksX0_init_4 2 rfl rfl)
theorem dX0_init_100 : decode cX0_init 100 = .ok (.putfield 72, 3) := dk_181 0 72 (dk_at dksX0_init_4 5 rfl rfl)
theorem dX0_init_103 : decode cX0_init 103 = .ok (.aload_n 0, 1) := dk_42 (dk_at dksX0_init_4 8 rfl rfl)
theorem dX0_init_104 : decode cX0_init 104 = .ok (.new 48, 3) := dk_187 0 48 (dk_at dksX0_init_4 9 rfl rfl)
theorem dX0_init_107 : decode cX0_init 107 = .ok (.dup, 1) := dk_89 (dk_at dksX0_init_4 12 rfl rfl)
theorem dX0_init_108 : decode cX0_init 108 = .ok (.invokespecial 50, 3) := dk_183 0 50 (dk_at dksX0_init_4 13 rfl rfl)
theorem dX0_init_111 : decode cX0_init 111 = .ok (.putfield 76, 3) := dk_181 0 76 (dk_at dksX0_init_4 16 rfl rfl)
theorem dX0_init_114 : decode cX0_init 114 = .ok (.aload_n 0, 1) := dk_42 (dk_at dksX0_init_4 19 rfl rfl)
theorem dX0_init_115 : decode cX0_init 115 = .ok (.new 48, 3) := dk_187 0 48 (dk_at dksX0_init_4 20 rfl rfl)
theorem dX0_init_118 : decode cX0_init 118 = .ok (.dup, 1) := dk_89 (dk_at dksX0_init_4 23 rfl rfl)
theorem dX0_init_119 : decode cX0_init 119 = .ok (.invokespecial 50, 3) := dk_183 0 50 (dk_at dksX0_init_5 0 rfl rfl)
theorem dX0_init_122 : decode cX0_init 122 = .ok (.putfield 79, 3) := dk_181 0 79 (dk_at dksX0_init_5 3 rfl rfl)
theorem dX0_init_125 : decode cX0_init 125 = .ok (.aload_n 0, 1) := dk_42 (dk_at dksX0_init_5 6 rfl rfl)
theorem dX0_init_126 : decode cX0_init 126 = .ok (.iconst 4, 1) := dk_7 (dk_at dksX0_init_5 7 rfl rfl)
theorem dX0_init_127 : decode cX0_init 127 = .ok (.newarray .int, 2) := dk_188_10 (dk_at dksX0_init_5 8 rfl rfl)
theorem dX0_init_129 : decode cX0_init 129 = .ok (.putfield 82, 3) := dk_181 0 82 (dk_at dksX0_init_5 10 rfl rfl)
theorem dX0_init_132 : decode cX0_init 132 = .ok (.aload_n 0, 1) := dk_42 (dk_at dksX0_init_5 13 rfl rfl)
theorem dX0_init_133 : decode cX0_init 133 = .ok (.invokestatic 85, 3) := dk_184 0 85 (dk_at dksX0_init_5 14 rfl rfl)
theorem dX0_init_136 : decode cX0_init 136 = .ok (.putfield 89, 3) := dk_181 0 89 (dk_at dksX0_init_5 17 rfl rfl)
theorem dX0_init_139 : decode cX0_init 139 = .ok (.aload_n 0, 1) := dk_42 (dk_at dksX0_init_5 20 rfl rfl)
theorem dX0_init_140 : decode cX0_init 140 = .ok (.bipush 6, 2) := dk_16 6 (dk_at dksX0_init_5 21 rfl rfl)
theorem dX0_init_142 : decode cX0_init 142 = .ok (.newarray .int, 2) := dk_188_10 (dk_at dksX0_init_6 0 rfl rfl)
theorem dX0_init_144 : decode cX0_init 144 = .ok (.putfield 93, 3) := dk_181 0 93 (dk_at dksX0_init_6 2 rfl rfl)
theorem dX0_init_147 : decode cX0_init 147 = .ok (.aload_n 0, 1) := dk_42 (dk_at dksX0_init_6 5 rfl rfl)
theorem dX0_init_148 : decode cX0_init 148 = .ok (.bipush 6, 2) := dk_16 6 (dk_at dksX0_init_6 6 rfl rfl)
theorem dX0_init_150 : decode cX0_init 150 = .ok (.newarray .int, 2) := dk_188_10 (dk_at dksX0_init_6 8 rfl rfl)
theorem dX0_init_152 : decode cX0_init 152 = .ok (.putfield 96, 3) := dk_181 0 96 (dk_at dksX0_init_6 10 rfl rfl)
theorem dX0_init_155 : decode cX0_init 155 = .ok (.aload_n 0, 1) := dk_42 (dk_at dksX0_init_6 13 rfl rfl)
theorem dX0_init_156 : decode cX0_init 156 = .ok (.sipush 7776, 3) := dk_17 30 96 (dk_at dksX0_init_6 14 rfl rfl)
theorem dX0_init_159 : decode cX0_init 159 = .ok (.newarray .int, 2) := dk_188_10 (dk_at dksX0_init_6 17 rfl rfl)
theorem dX0_init_161 : decode cX0_init 161 = .ok (.putfield 99, 3) := dk_181 0 99 (dk_at dksX0_init_6 19 rfl rfl)
theorem dX0_init_164 : decode cX0_init 164 = .ok (.aload_n 0, 1) := dk_42 (dk_at dksX0_init_6 22 rfl rfl)
theorem dX0_init_165 : decode cX0_init 165 = .ok (.iconst 1, 1) := dk_4 (dk_at dksX0_init_6 23 rfl rfl)
theorem dX0_init_166 : decode cX0_init 166 = .ok (.putfield 102, 3) := dk_181 0 102 (dk_at dksX0_init_7 0 rfl rfl)
theorem dX0_init_169 : decode cX0_init 169 = .ok (.return_, 1) := dk_177 (dk_at dksX0_init_7 3 rfl rfl)
abbrev cX0_newDepth : ByteArray := prog_1_method_56_code
def yX0_newDepth : MethodName := ⟨RX0, "newDepth", "()[LSandPiano$Sands;"⟩
def dkwX0_newDepth_1 : List UInt8 := [132, 1, 1, 167, 255, 237, 42, 176]
abbrev dktX0_newDepth_1 : List UInt8 := dkwX0_newDepth_1 ++ []
def dkwX0_newDepth_0 : List UInt8 := [16, 7, 189, 0, 48, 75, 3, 60, 27, 16, 6, 163, 0, 19, 42, 27, 187, 0, 48, 89, 183, 0, 50, 83]
abbrev dktX0_newDepth_0 : List UInt8 := dkwX0_newDepth_0 ++ dktX0_newDepth_1
theorem dksX0_newDepth_0 : cX0_newDepth.data.toList.drop 0 = dktX0_newDepth_0 := by decide +kernel
theorem dksX0_newDepth_1 : cX0_newDepth.data.toList.drop 24 = dktX0_newDepth_1 := dk_seg dksX0_newDepth_0 24 rfl rfl
theorem dX0_newDepth_0 : decode cX0_newDepth 0 = .ok (.bipush 7, 2) := dk_16 7 (dk_at dksX0_newDepth_0 0 rfl rfl)
theorem dX0_newDepth_2 : decode cX0_newDepth 2 = .ok (.anewarray 48, 3) := dk_189 0 48 (dk_at dksX0_newDepth_0 2 rfl rfl)
theorem dX0_newDepth_5 : decode cX0_newDepth 5 = .ok (.astore_n 0, 1) := dk_75 (dk_at dksX0_newDepth_0 5 rfl rfl)
theorem dX0_newDepth_6 : decode cX0_newDepth 6 = .ok (.iconst 0, 1) := dk_3 (dk_at dksX0_newDepth_0 6 rfl rfl)
theorem dX0_newDepth_7 : decode cX0_newDepth 7 = .ok (.istore_n 1, 1) := dk_60 (dk_at dksX0_newDepth_0 7 rfl rfl)
theorem dX0_newDepth_8 : decode cX0_newDepth 8 = .ok (.iload_n 1, 1) := dk_27 (dk_at dksX0_newDepth_0 8 rfl rfl)
theorem dX0_newDepth_9 : decode cX0_newDepth 9 = .ok (.bipush 6, 2) := dk_16 6 (dk_at dksX0_newDepth_0 9 rfl rfl)
theorem dX0_newDepth_11 : decode cX0_newDepth 11 = .ok (.if_icmp .gt 19, 3) := dk_163 0 19 (dk_at dksX0_newDepth_0 11 rfl rfl)
theorem dX0_newDepth_14 : decode cX0_newDepth 14 = .ok (.aload_n 0, 1) := dk_42 (dk_at dksX0_newDepth_0 14 rfl rfl)
theorem dX0_newDepth_15 : decode cX0_newDepth 15 = .ok (.iload_n 1, 1) := dk_27 (dk_at dksX0_newDepth_0 15 rfl rfl)
theorem dX0_newDepth_16 : decode cX0_newDepth 16 = .ok (.new 48, 3) := dk_187 0 48 (dk_at dksX0_newDepth_0 16 rfl rfl)
theorem dX0_newDepth_19 : decode cX0_newDepth 19 = .ok (.dup, 1) := dk_89 (dk_at dksX0_newDepth_0 19 rfl rfl)
theorem dX0_newDepth_20 : decode cX0_newDepth 20 = .ok (.invokespecial 50, 3) := dk_183 0 50 (dk_at dksX0_newDepth_0 20 rfl rfl)
theorem dX0_newDepth_23 : decode cX0_newDepth 23 = .ok (.aastore, 1) := dk_83 (dk_at dksX0_newDepth_0 23 rfl rfl)
theorem dX0_newDepth_24 : decode cX0_newDepth 24 = .ok (.iinc 1 1, 3) := dk_132 1 1 (dk_at dksX0_newDepth_1 0 rfl rfl)
theorem dX0_newDepth_27 : decode cX0_newDepth 27 = .ok (.goto (-19), 3) := dk_167 255 237 (dk_at dksX0_newDepth_1 3 rfl rfl)
theorem dX0_newDepth_30 : decode cX0_newDepth 30 = .ok (.aload_n 0, 1) := dk_42 (dk_at dksX0_newDepth_1 6 rfl rfl)
theorem dX0_newDepth_31 : decode cX0_newDepth 31 = .ok (.areturn, 1) := dk_176 (dk_at dksX0_newDepth_1 7 rfl rfl)
abbrev cX0_row : ByteArray := prog_1_method_10_code
def yX0_row : MethodName := ⟨RX0, "row", "(II)I"⟩
def dkwX0_row_1 : List UInt8 := [28, 172, 78, 42, 8, 182, 0, 115, 172]
abbrev dktX0_row_1 : List UInt8 := dkwX0_row_1 ++ []
def dkwX0_row_0 : List UInt8 := [27, 184, 0, 109, 153, 0, 9, 28, 16, 40, 164, 0, 5, 2, 172, 42, 180, 0, 32, 27, 28, 188, 10, 83]
abbrev dktX0_row_0 : List UInt8 := dkwX0_row_0 ++ dktX0_row_1
theorem dksX0_row_0 : cX0_row.data.toList.drop 0 = dktX0_row_0 := by decide +kernel
theorem dksX0_row_1 : cX0_row.data.toList.drop 24 = dktX0_row_1 := dk_seg dksX0_row_0 24 rfl rfl
theorem dX0_row_0 : decode cX0_row 0 = .ok (.iload_n 1, 1) := dk_27 (dk_at dksX0_row_0 0 rfl rfl)
theorem dX0_row_1 : decode cX0_row 1 = .ok (.invokestatic 109, 3) := dk_184 0 109 (dk_at dksX0_row_0 1 rfl rfl)
theorem dX0_row_4 : decode cX0_row 4 = .ok (.ifCond .eq 9, 3) := dk_153 0 9 (dk_at dksX0_row_0 4 rfl rfl)
theorem dX0_row_7 : decode cX0_row 7 = .ok (.iload_n 2, 1) := dk_28 (dk_at dksX0_row_0 7 rfl rfl)
theorem dX0_row_8 : decode cX0_row 8 = .ok (.bipush 40, 2) := dk_16 40 (dk_at dksX0_row_0 8 rfl rfl)
theorem dX0_row_10 : decode cX0_row 10 = .ok (.if_icmp .le 5, 3) := dk_164 0 5 (dk_at dksX0_row_0 10 rfl rfl)
theorem dX0_row_13 : decode cX0_row 13 = .ok (.iconst (-1), 1) := dk_2 (dk_at dksX0_row_0 13 rfl rfl)
theorem dX0_row_14 : decode cX0_row 14 = .ok (.ireturn, 1) := dk_172 (dk_at dksX0_row_0 14 rfl rfl)
theorem dX0_row_15 : decode cX0_row 15 = .ok (.aload_n 0, 1) := dk_42 (dk_at dksX0_row_0 15 rfl rfl)
theorem dX0_row_16 : decode cX0_row 16 = .ok (.getfield 32, 3) := dk_180 0 32 (dk_at dksX0_row_0 16 rfl rfl)
theorem dX0_row_19 : decode cX0_row 19 = .ok (.iload_n 1, 1) := dk_27 (dk_at dksX0_row_0 19 rfl rfl)
theorem dX0_row_20 : decode cX0_row 20 = .ok (.iload_n 2, 1) := dk_28 (dk_at dksX0_row_0 20 rfl rfl)
theorem dX0_row_21 : decode cX0_row 21 = .ok (.newarray .int, 2) := dk_188_10 (dk_at dksX0_row_0 21 rfl rfl)
theorem dX0_row_23 : decode cX0_row 23 = .ok (.aastore, 1) := dk_83 (dk_at dksX0_row_0 23 rfl rfl)
theorem dX0_row_24 : decode cX0_row 24 = .ok (.iload_n 2, 1) := dk_28 (dk_at dksX0_row_1 0 rfl rfl)
theorem dX0_row_25 : decode cX0_row 25 = .ok (.ireturn, 1) := dk_172 (dk_at dksX0_row_1 1 rfl rfl)
theorem dX0_row_26 : decode cX0_row 26 = .ok (.astore_n 3, 1) := dk_78 (dk_at dksX0_row_1 2 rfl rfl)
theorem dX0_row_27 : decode cX0_row 27 = .ok (.aload_n 0, 1) := dk_42 (dk_at dksX0_row_1 3 rfl rfl)
theorem dX0_row_28 : decode cX0_row 28 = .ok (.iconst 5, 1) := dk_8 (dk_at dksX0_row_1 4 rfl rfl)
theorem dX0_row_29 : decode cX0_row 29 = .ok (.invokevirtual 115, 3) := dk_182 0 115 (dk_at dksX0_row_1 5 rfl rfl)
theorem dX0_row_32 : decode cX0_row 32 = .ok (.ireturn, 1) := dk_172 (dk_at dksX0_row_1 8 rfl rfl)
abbrev cX0_isRow : ByteArray := prog_1_method_8_code
def yX0_isRow : MethodName := ⟨RX0, "isRow", "(I)Z"⟩
def dkwX0_isRow_0 : List UInt8 := [26, 3, 8, 184, 0, 105, 172]
abbrev dktX0_isRow_0 : List UInt8 := dkwX0_isRow_0 ++ []
theorem dksX0_isRow_0 : cX0_isRow.data.toList.drop 0 = dktX0_isRow_0 := by decide +kernel
theorem dX0_isRow_0 : decode cX0_isRow 0 = .ok (.iload_n 0, 1) := dk_26 (dk_at dksX0_isRow_0 0 rfl rfl)
theorem dX0_isRow_1 : decode cX0_isRow 1 = .ok (.iconst 0, 1) := dk_3 (dk_at dksX0_isRow_0 1 rfl rfl)
theorem dX0_isRow_2 : decode cX0_isRow 2 = .ok (.iconst 5, 1) := dk_8 (dk_at dksX0_isRow_0 2 rfl rfl)
theorem dX0_isRow_3 : decode cX0_isRow 3 = .ok (.invokestatic 105, 3) := dk_184 0 105 (dk_at dksX0_isRow_0 3 rfl rfl)
theorem dX0_isRow_6 : decode cX0_isRow 6 = .ok (.ireturn, 1) := dk_172 (dk_at dksX0_isRow_0 6 rfl rfl)
abbrev cX0_isIn : ByteArray := prog_1_method_1_code
def yX0_isIn : MethodName := ⟨RX0, "isIn", "(III)Z"⟩
def dkwX0_isIn_0 : List UInt8 := [26, 27, 161, 0, 12, 26, 28, 163, 0, 7, 4, 167, 0, 4, 3, 172]
abbrev dktX0_isIn_0 : List UInt8 := dkwX0_isIn_0 ++ []
theorem dksX0_isIn_0 : cX0_isIn.data.toList.drop 0 = dktX0_isIn_0 := by decide +kernel
theorem dX0_isIn_0 : decode cX0_isIn 0 = .ok (.iload_n 0, 1) := dk_26 (dk_at dksX0_isIn_0 0 rfl rfl)
theorem dX0_isIn_1 : decode cX0_isIn 1 = .ok (.iload_n 1, 1) := dk_27 (dk_at dksX0_isIn_0 1 rfl rfl)
theorem dX0_isIn_2 : decode cX0_isIn 2 = .ok (.if_icmp .lt 12, 3) := dk_161 0 12 (dk_at dksX0_isIn_0 2 rfl rfl)
theorem dX0_isIn_5 : decode cX0_isIn 5 = .ok (.iload_n 0, 1) := dk_26 (dk_at dksX0_isIn_0 5 rfl rfl)
theorem dX0_isIn_6 : decode cX0_isIn 6 = .ok (.iload_n 2, 1) := dk_28 (dk_at dksX0_isIn_0 6 rfl rfl)
theorem dX0_isIn_7 : decode cX0_isIn 7 = .ok (.if_icmp .gt 7, 3) := dk_163 0 7 (dk_at dksX0_isIn_0 7 rfl rfl)
theorem dX0_isIn_10 : decode cX0_isIn 10 = .ok (.iconst 1, 1) := dk_4 (dk_at dksX0_isIn_0 10 rfl rfl)
theorem dX0_isIn_11 : decode cX0_isIn 11 = .ok (.goto 4, 3) := dk_167 0 4 (dk_at dksX0_isIn_0 11 rfl rfl)
theorem dX0_isIn_14 : decode cX0_isIn 14 = .ok (.iconst 0, 1) := dk_3 (dk_at dksX0_isIn_0 14 rfl rfl)
theorem dX0_isIn_15 : decode cX0_isIn 15 = .ok (.ireturn, 1) := dk_172 (dk_at dksX0_isIn_0 15 rfl rfl)
abbrev cX0_found : ByteArray := prog_1_method_3_code
def yX0_found : MethodName := ⟨RX0, "found", "(I)I"⟩
def dkwX0_found_0 : List UInt8 := [42, 27, 181, 0, 1, 42, 180, 0, 7, 27, 92, 46, 4, 96, 79, 16, 253, 172]
abbrev dktX0_found_0 : List UInt8 := dkwX0_found_0 ++ []
theorem dksX0_found_0 : cX0_found.data.toList.drop 0 = dktX0_found_0 := by decide +kernel
theorem dX0_found_0 : decode cX0_found 0 = .ok (.aload_n 0, 1) := dk_42 (dk_at dksX0_found_0 0 rfl rfl)
theorem dX0_found_1 : decode cX0_found 1 = .ok (.iload_n 1, 1) := dk_27 (dk_at dksX0_found_0 1 rfl rfl)
theorem dX0_found_2 : decode cX0_found 2 = .ok (.putfield 1, 3) := dk_181 0 1 (dk_at dksX0_found_0 2 rfl rfl)
theorem dX0_found_5 : decode cX0_found 5 = .ok (.aload_n 0, 1) := dk_42 (dk_at dksX0_found_0 5 rfl rfl)
theorem dX0_found_6 : decode cX0_found 6 = .ok (.getfield 7, 3) := dk_180 0 7 (dk_at dksX0_found_0 6 rfl rfl)
theorem dX0_found_9 : decode cX0_found 9 = .ok (.iload_n 1, 1) := dk_27 (dk_at dksX0_found_0 9 rfl rfl)
theorem dX0_found_10 : decode cX0_found 10 = .ok (.dup2, 1) := dk_92 (dk_at dksX0_found_0 10 rfl rfl)
theorem dX0_found_11 : decode cX0_found 11 = .ok (.iaload, 1) := dk_46 (dk_at dksX0_found_0 11 rfl rfl)
theorem dX0_found_12 : decode cX0_found 12 = .ok (.iconst 1, 1) := dk_4 (dk_at dksX0_found_0 12 rfl rfl)
theorem dX0_found_13 : decode cX0_found 13 = .ok (.iadd, 1) := dk_96 (dk_at dksX0_found_0 13 rfl rfl)
theorem dX0_found_14 : decode cX0_found 14 = .ok (.iastore, 1) := dk_79 (dk_at dksX0_found_0 14 rfl rfl)
theorem dX0_found_15 : decode cX0_found 15 = .ok (.bipush (-3), 2) := dk_16 253 (dk_at dksX0_found_0 15 rfl rfl)
theorem dX0_found_17 : decode cX0_found 17 = .ok (.ireturn, 1) := dk_172 (dk_at dksX0_found_0 17 rfl rfl)
abbrev cX0_lay : ByteArray := prog_1_method_11_code
def yX0_lay : MethodName := ⟨RX0, "lay", "(III)I"⟩
def dkwX0_lay_1 : List UInt8 := [21, 4, 172]
abbrev dktX0_lay_1 : List UInt8 := dkwX0_lay_1 ++ []
def dkwX0_lay_0 : List UInt8 := [42, 27, 28, 182, 0, 119, 54, 4, 21, 4, 4, 160, 0, 12, 42, 180, 0, 32, 27, 50, 28, 29, 79]
abbrev dktX0_lay_0 : List UInt8 := dkwX0_lay_0 ++ dktX0_lay_1
theorem dksX0_lay_0 : cX0_lay.data.toList.drop 0 = dktX0_lay_0 := by decide +kernel
theorem dksX0_lay_1 : cX0_lay.data.toList.drop 23 = dktX0_lay_1 := dk_seg dksX0_lay_0 23 rfl rfl
theorem dX0_lay_0 : decode cX0_lay 0 = .ok (.aload_n 0, 1) := dk_42 (dk_at dksX0_lay_0 0 rfl rfl)
theorem dX0_lay_1 : decode cX0_lay 1 = .ok (.iload_n 1, 1) := dk_27 (dk_at dksX0_lay_0 1 rfl rfl)
theorem dX0_lay_2 : decode cX0_lay 2 = .ok (.iload_n 2, 1) := dk_28 (dk_at dksX0_lay_0 2 rfl rfl)
theorem dX0_lay_3 : decode cX0_lay 3 = .ok (.invokevirtual 119, 3) := dk_182 0 119 (dk_at dksX0_lay_0 3 rfl rfl)
theorem dX0_lay_6 : decode cX0_lay 6 = .ok (.istore 4, 2) := dk_54 4 (dk_at dksX0_lay_0 6 rfl rfl)
theorem dX0_lay_8 : decode cX0_lay 8 = .ok (.iload 4, 2) := dk_21 4 (dk_at dksX0_lay_0 8 rfl rfl)
theorem dX0_lay_10 : decode cX0_lay 10 = .ok (.iconst 1, 1) := dk_4 (dk_at dksX0_lay_0 10 rfl rfl)
theorem dX0_lay_11 : decode cX0_lay 11 = .ok (.if_icmp .ne 12, 3) := dk_160 0 12 (dk_at dksX0_lay_0 11 rfl rfl)
theorem dX0_lay_14 : decode cX0_lay 14 = .ok (.aload_n 0, 1) := dk_42 (dk_at dksX0_lay_0 14 rfl rfl)
theorem dX0_lay_15 : decode cX0_lay 15 = .ok (.getfield 32, 3) := dk_180 0 32 (dk_at dksX0_lay_0 15 rfl rfl)
theorem dX0_lay_18 : decode cX0_lay 18 = .ok (.iload_n 1, 1) := dk_27 (dk_at dksX0_lay_0 18 rfl rfl)
theorem dX0_lay_19 : decode cX0_lay 19 = .ok (.aaload, 1) := dk_50 (dk_at dksX0_lay_0 19 rfl rfl)
theorem dX0_lay_20 : decode cX0_lay 20 = .ok (.iload_n 2, 1) := dk_28 (dk_at dksX0_lay_0 20 rfl rfl)
theorem dX0_lay_21 : decode cX0_lay 21 = .ok (.iload_n 3, 1) := dk_29 (dk_at dksX0_lay_0 21 rfl rfl)
theorem dX0_lay_22 : decode cX0_lay 22 = .ok (.iastore, 1) := dk_79 (dk_at dksX0_lay_0 22 rfl rfl)
theorem dX0_lay_23 : decode cX0_lay 23 = .ok (.iload 4, 2) := dk_21 4 (dk_at dksX0_lay_1 0 rfl rfl)
theorem dX0_lay_25 : decode cX0_lay 25 = .ok (.ireturn, 1) := dk_172 (dk_at dksX0_lay_1 2 rfl rfl)
abbrev cX0_at : ByteArray := prog_1_method_12_code
def yX0_at : MethodName := ⟨RX0, "at", "(II)I"⟩
def dkwX0_at_1 : List UInt8 := [42, 4, 182, 0, 115, 172, 78, 42, 5, 182, 0, 115, 172]
abbrev dktX0_at_1 : List UInt8 := dkwX0_at_1 ++ []
def dkwX0_at_0 : List UInt8 := [27, 184, 0, 109, 154, 0, 5, 2, 172, 42, 42, 180, 0, 32, 27, 50, 28, 46, 4, 182, 0, 123, 172, 78]
abbrev dktX0_at_0 : List UInt8 := dkwX0_at_0 ++ dktX0_at_1
theorem dksX0_at_0 : cX0_at.data.toList.drop 0 = dktX0_at_0 := by decide +kernel
theorem dksX0_at_1 : cX0_at.data.toList.drop 24 = dktX0_at_1 := dk_seg dksX0_at_0 24 rfl rfl
theorem dX0_at_0 : decode cX0_at 0 = .ok (.iload_n 1, 1) := dk_27 (dk_at dksX0_at_0 0 rfl rfl)
theorem dX0_at_1 : decode cX0_at 1 = .ok (.invokestatic 109, 3) := dk_184 0 109 (dk_at dksX0_at_0 1 rfl rfl)
theorem dX0_at_4 : decode cX0_at 4 = .ok (.ifCond .ne 5, 3) := dk_154 0 5 (dk_at dksX0_at_0 4 rfl rfl)
theorem dX0_at_7 : decode cX0_at 7 = .ok (.iconst (-1), 1) := dk_2 (dk_at dksX0_at_0 7 rfl rfl)
theorem dX0_at_8 : decode cX0_at 8 = .ok (.ireturn, 1) := dk_172 (dk_at dksX0_at_0 8 rfl rfl)
theorem dX0_at_9 : decode cX0_at 9 = .ok (.aload_n 0, 1) := dk_42 (dk_at dksX0_at_0 9 rfl rfl)
theorem dX0_at_10 : decode cX0_at 10 = .ok (.aload_n 0, 1) := dk_42 (dk_at dksX0_at_0 10 rfl rfl)
theorem dX0_at_11 : decode cX0_at 11 = .ok (.getfield 32, 3) := dk_180 0 32 (dk_at dksX0_at_0 11 rfl rfl)
theorem dX0_at_14 : decode cX0_at 14 = .ok (.iload_n 1, 1) := dk_27 (dk_at dksX0_at_0 14 rfl rfl)
theorem dX0_at_15 : decode cX0_at 15 = .ok (.aaload, 1) := dk_50 (dk_at dksX0_at_0 15 rfl rfl)
theorem dX0_at_16 : decode cX0_at 16 = .ok (.iload_n 2, 1) := dk_28 (dk_at dksX0_at_0 16 rfl rfl)
theorem dX0_at_17 : decode cX0_at 17 = .ok (.iaload, 1) := dk_46 (dk_at dksX0_at_0 17 rfl rfl)
theorem dX0_at_18 : decode cX0_at 18 = .ok (.iconst 1, 1) := dk_4 (dk_at dksX0_at_0 18 rfl rfl)
theorem dX0_at_19 : decode cX0_at 19 = .ok (.invokevirtual 123, 3) := dk_182 0 123 (dk_at dksX0_at_0 19 rfl rfl)
theorem dX0_at_22 : decode cX0_at 22 = .ok (.ireturn, 1) := dk_172 (dk_at dksX0_at_0 22 rfl rfl)
theorem dX0_at_23 : decode cX0_at 23 = .ok (.astore_n 3, 1) := dk_78 (dk_at dksX0_at_0 23 rfl rfl)
theorem dX0_at_24 : decode cX0_at 24 = .ok (.aload_n 0, 1) := dk_42 (dk_at dksX0_at_1 0 rfl rfl)
theorem dX0_at_25 : decode cX0_at 25 = .ok (.iconst 1, 1) := dk_4 (dk_at dksX0_at_1 1 rfl rfl)
theorem dX0_at_26 : decode cX0_at 26 = .ok (.invokevirtual 115, 3) := dk_182 0 115 (dk_at dksX0_at_1 2 rfl rfl)
theorem dX0_at_29 : decode cX0_at 29 = .ok (.ireturn, 1) := dk_172 (dk_at dksX0_at_1 5 rfl rfl)
theorem dX0_at_30 : decode cX0_at 30 = .ok (.astore_n 3, 1) := dk_78 (dk_at dksX0_at_1 6 rfl rfl)
theorem dX0_at_31 : decode cX0_at 31 = .ok (.aload_n 0, 1) := dk_42 (dk_at dksX0_at_1 7 rfl rfl)
theorem dX0_at_32 : decode cX0_at 32 = .ok (.iconst 2, 1) := dk_5 (dk_at dksX0_at_1 8 rfl rfl)
theorem dX0_at_33 : decode cX0_at 33 = .ok (.invokevirtual 115, 3) := dk_182 0 115 (dk_at dksX0_at_1 9 rfl rfl)
theorem dX0_at_36 : decode cX0_at 36 = .ok (.ireturn, 1) := dk_172 (dk_at dksX0_at_1 12 rfl rfl)
abbrev cX0_ask : ByteArray := prog_1_method_4_code
def yX0_ask : MethodName := ⟨RX0, "ask", "(II)I"⟩
def dkwX0_ask_0 : List UInt8 := [42, 27, 181, 0, 11, 28, 172]
abbrev dktX0_ask_0 : List UInt8 := dkwX0_ask_0 ++ []
theorem dksX0_ask_0 : cX0_ask.data.toList.drop 0 = dktX0_ask_0 := by decide +kernel
theorem dX0_ask_0 : decode cX0_ask 0 = .ok (.aload_n 0, 1) := dk_42 (dk_at dksX0_ask_0 0 rfl rfl)
theorem dX0_ask_1 : decode cX0_ask 1 = .ok (.iload_n 1, 1) := dk_27 (dk_at dksX0_ask_0 1 rfl rfl)
theorem dX0_ask_2 : decode cX0_ask 2 = .ok (.putfield 11, 3) := dk_181 0 11 (dk_at dksX0_ask_0 2 rfl rfl)
theorem dX0_ask_5 : decode cX0_ask 5 = .ok (.iload_n 2, 1) := dk_28 (dk_at dksX0_ask_0 5 rfl rfl)
theorem dX0_ask_6 : decode cX0_ask 6 = .ok (.ireturn, 1) := dk_172 (dk_at dksX0_ask_0 6 rfl rfl)
abbrev cX0_tear : ByteArray := prog_1_method_13_code
def yX0_tear : MethodName := ⟨RX0, "tear", "(I)I"⟩
def dkwX0_tear_1 : List UInt8 := [42, 180, 0, 32, 27, 1, 83, 4, 172]
abbrev dktX0_tear_1 : List UInt8 := dkwX0_tear_1 ++ []
def dkwX0_tear_0 : List UInt8 := [27, 184, 0, 109, 154, 0, 5, 2, 172, 42, 180, 0, 32, 27, 50, 199, 0, 9, 42, 4, 182, 0, 115, 172]
abbrev dktX0_tear_0 : List UInt8 := dkwX0_tear_0 ++ dktX0_tear_1
theorem dksX0_tear_0 : cX0_tear.data.toList.drop 0 = dktX0_tear_0 := by decide +kernel
theorem dksX0_tear_1 : cX0_tear.data.toList.drop 24 = dktX0_tear_1 := dk_seg dksX0_tear_0 24 rfl rfl
theorem dX0_tear_0 : decode cX0_tear 0 = .ok (.iload_n 1, 1) := dk_27 (dk_at dksX0_tear_0 0 rfl rfl)
theorem dX0_tear_1 : decode cX0_tear 1 = .ok (.invokestatic 109, 3) := dk_184 0 109 (dk_at dksX0_tear_0 1 rfl rfl)
theorem dX0_tear_4 : decode cX0_tear 4 = .ok (.ifCond .ne 5, 3) := dk_154 0 5 (dk_at dksX0_tear_0 4 rfl rfl)
theorem dX0_tear_7 : decode cX0_tear 7 = .ok (.iconst (-1), 1) := dk_2 (dk_at dksX0_tear_0 7 rfl rfl)
theorem dX0_tear_8 : decode cX0_tear 8 = .ok (.ireturn, 1) := dk_172 (dk_at dksX0_tear_0 8 rfl rfl)
theorem dX0_tear_9 : decode cX0_tear 9 = .ok (.aload_n 0, 1) := dk_42 (dk_at dksX0_tear_0 9 rfl rfl)
theorem dX0_tear_10 : decode cX0_tear 10 = .ok (.getfield 32, 3) := dk_180 0 32 (dk_at dksX0_tear_0 10 rfl rfl)
theorem dX0_tear_13 : decode cX0_tear 13 = .ok (.iload_n 1, 1) := dk_27 (dk_at dksX0_tear_0 13 rfl rfl)
theorem dX0_tear_14 : decode cX0_tear 14 = .ok (.aaload, 1) := dk_50 (dk_at dksX0_tear_0 14 rfl rfl)
theorem dX0_tear_15 : decode cX0_tear 15 = .ok (.ifnonnull 9, 3) := dk_199 0 9 (dk_at dksX0_tear_0 15 rfl rfl)
theorem dX0_tear_18 : decode cX0_tear 18 = .ok (.aload_n 0, 1) := dk_42 (dk_at dksX0_tear_0 18 rfl rfl)
theorem dX0_tear_19 : decode cX0_tear 19 = .ok (.iconst 1, 1) := dk_4 (dk_at dksX0_tear_0 19 rfl rfl)
theorem dX0_tear_20 : decode cX0_tear 20 = .ok (.invokevirtual 115, 3) := dk_182 0 115 (dk_at dksX0_tear_0 20 rfl rfl)
theorem dX0_tear_23 : decode cX0_tear 23 = .ok (.ireturn, 1) := dk_172 (dk_at dksX0_tear_0 23 rfl rfl)
theorem dX0_tear_24 : decode cX0_tear 24 = .ok (.aload_n 0, 1) := dk_42 (dk_at dksX0_tear_1 0 rfl rfl)
theorem dX0_tear_25 : decode cX0_tear 25 = .ok (.getfield 32, 3) := dk_180 0 32 (dk_at dksX0_tear_1 1 rfl rfl)
theorem dX0_tear_28 : decode cX0_tear 28 = .ok (.iload_n 1, 1) := dk_27 (dk_at dksX0_tear_1 4 rfl rfl)
theorem dX0_tear_29 : decode cX0_tear 29 = .ok (.aconst_null, 1) := dk_1 (dk_at dksX0_tear_1 5 rfl rfl)
theorem dX0_tear_30 : decode cX0_tear 30 = .ok (.aastore, 1) := dk_83 (dk_at dksX0_tear_1 6 rfl rfl)
theorem dX0_tear_31 : decode cX0_tear 31 = .ok (.iconst 1, 1) := dk_4 (dk_at dksX0_tear_1 7 rfl rfl)
theorem dX0_tear_32 : decode cX0_tear 32 = .ok (.ireturn, 1) := dk_172 (dk_at dksX0_tear_1 8 rfl rfl)
abbrev cX0_copy : ByteArray := prog_1_method_14_code
def yX0_copy : MethodName := ⟨RX0, "copy", "(IIIII)I"⟩
def dkwX0_copy_2 : List UInt8 := [4, 172, 58, 6, 42, 4, 182, 0, 115, 172, 58, 6, 42, 5, 182, 0, 115, 172]
abbrev dktX0_copy_2 : List UInt8 := dkwX0_copy_2 ++ []
def dkwX0_copy_1 : List UInt8 := [182, 0, 115, 172, 42, 180, 0, 32, 27, 50, 28, 42, 180, 0, 32, 29, 50, 21, 4, 21, 5, 184, 0, 130]
abbrev dktX0_copy_1 : List UInt8 := dkwX0_copy_1 ++ dktX0_copy_2
def dkwX0_copy_0 : List UInt8 := [27, 184, 0, 109, 153, 0, 10, 29, 184, 0, 109, 154, 0, 5, 2, 172, 21, 5, 156, 0, 9, 42, 8]
abbrev dktX0_copy_0 : List UInt8 := dkwX0_copy_0 ++ dktX0_copy_1
theorem dksX0_copy_0 : cX0_copy.data.toList.drop 0 = dktX0_copy_0 := by decide +kernel
theorem dksX0_copy_1 : cX0_copy.data.toList.drop 23 = dktX0_copy_1 := dk_seg dksX0_copy_0 23 rfl rfl
theorem dksX0_copy_2 : cX0_copy.data.toList.drop 47 = dktX0_copy_2 := dk_seg dksX0_copy_1 24 rfl rfl
theorem dX0_copy_0 : decode cX0_copy 0 = .ok (.iload_n 1, 1) := dk_27 (dk_at dksX0_copy_0 0 rfl rfl)
theorem dX0_copy_1 : decode cX0_copy 1 = .ok (.invokestatic 109, 3) := dk_184 0 109 (dk_at dksX0_copy_0 1 rfl rfl)
theorem dX0_copy_4 : decode cX0_copy 4 = .ok (.ifCond .eq 10, 3) := dk_153 0 10 (dk_at dksX0_copy_0 4 rfl rfl)
theorem dX0_copy_7 : decode cX0_copy 7 = .ok (.iload_n 3, 1) := dk_29 (dk_at dksX0_copy_0 7 rfl rfl)
theorem dX0_copy_8 : decode cX0_copy 8 = .ok (.invokestatic 109, 3) := dk_184 0 109 (dk_at dksX0_copy_0 8 rfl rfl)
theorem dX0_copy_11 : decode cX0_copy 11 = .ok (.ifCond .ne 5, 3) := dk_154 0 5 (dk_at dksX0_copy_0 11 rfl rfl)
theorem dX0_copy_14 : decode cX0_copy 14 = .ok (.iconst (-1), 1) := dk_2 (dk_at dksX0_copy_0 14 rfl rfl)
theorem dX0_copy_15 : decode cX0_copy 15 = .ok (.ireturn, 1) := dk_172 (dk_at dksX0_copy_0 15 rfl rfl)
theorem dX0_copy_16 : decode cX0_copy 16 = .ok (.iload 5, 2) := dk_21 5 (dk_at dksX0_copy_0 16 rfl rfl)
theorem dX0_copy_18 : decode cX0_copy 18 = .ok (.ifCond .ge 9, 3) := dk_156 0 9 (dk_at dksX0_copy_0 18 rfl rfl)
theorem dX0_copy_21 : decode cX0_copy 21 = .ok (.aload_n 0, 1) := dk_42 (dk_at dksX0_copy_0 21 rfl rfl)
theorem dX0_copy_22 : decode cX0_copy 22 = .ok (.iconst 5, 1) := dk_8 (dk_at dksX0_copy_0 22 rfl rfl)
theorem dX0_copy_23 : decode cX0_copy 23 = .ok (.invokevirtual 115, 3) := dk_182 0 115 (dk_at dksX0_copy_1 0 rfl rfl)
theorem dX0_copy_26 : decode cX0_copy 26 = .ok (.ireturn, 1) := dk_172 (dk_at dksX0_copy_1 3 rfl rfl)
theorem dX0_copy_27 : decode cX0_copy 27 = .ok (.aload_n 0, 1) := dk_42 (dk_at dksX0_copy_1 4 rfl rfl)
theorem dX0_copy_28 : decode cX0_copy 28 = .ok (.getfield 32, 3) := dk_180 0 32 (dk_at dksX0_copy_1 5 rfl rfl)
theorem dX0_copy_31 : decode cX0_copy 31 = .ok (.iload_n 1, 1) := dk_27 (dk_at dksX0_copy_1 8 rfl rfl)
theorem dX0_copy_32 : decode cX0_copy 32 = .ok (.aaload, 1) := dk_50 (dk_at dksX0_copy_1 9 rfl rfl)
theorem dX0_copy_33 : decode cX0_copy 33 = .ok (.iload_n 2, 1) := dk_28 (dk_at dksX0_copy_1 10 rfl rfl)
theorem dX0_copy_34 : decode cX0_copy 34 = .ok (.aload_n 0, 1) := dk_42 (dk_at dksX0_copy_1 11 rfl rfl)
theorem dX0_copy_35 : decode cX0_copy 35 = .ok (.getfield 32, 3) := dk_180 0 32 (dk_at dksX0_copy_1 12 rfl rfl)
theorem dX0_copy_38 : decode cX0_copy 38 = .ok (.iload_n 3, 1) := dk_29 (dk_at dksX0_copy_1 15 rfl rfl)
theorem dX0_copy_39 : decode cX0_copy 39 = .ok (.aaload, 1) := dk_50 (dk_at dksX0_copy_1 16 rfl rfl)
theorem dX0_copy_40 : decode cX0_copy 40 = .ok (.iload 4, 2) := dk_21 4 (dk_at dksX0_copy_1 17 rfl rfl)
theorem dX0_copy_42 : decode cX0_copy 42 = .ok (.iload 5, 2) := dk_21 5 (dk_at dksX0_copy_1 19 rfl rfl)
theorem dX0_copy_44 : decode cX0_copy 44 = .ok (.invokestatic 130, 3) := dk_184 0 130 (dk_at dksX0_copy_1 21 rfl rfl)
theorem dX0_copy_47 : decode cX0_copy 47 = .ok (.iconst 1, 1) := dk_4 (dk_at dksX0_copy_2 0 rfl rfl)
theorem dX0_copy_48 : decode cX0_copy 48 = .ok (.ireturn, 1) := dk_172 (dk_at dksX0_copy_2 1 rfl rfl)
theorem dX0_copy_49 : decode cX0_copy 49 = .ok (.astore 6, 2) := dk_58 6 (dk_at dksX0_copy_2 2 rfl rfl)
theorem dX0_copy_51 : decode cX0_copy 51 = .ok (.aload_n 0, 1) := dk_42 (dk_at dksX0_copy_2 4 rfl rfl)
theorem dX0_copy_52 : decode cX0_copy 52 = .ok (.iconst 1, 1) := dk_4 (dk_at dksX0_copy_2 5 rfl rfl)
theorem dX0_copy_53 : decode cX0_copy 53 = .ok (.invokevirtual 115, 3) := dk_182 0 115 (dk_at dksX0_copy_2 6 rfl rfl)
theorem dX0_copy_56 : decode cX0_copy 56 = .ok (.ireturn, 1) := dk_172 (dk_at dksX0_copy_2 9 rfl rfl)
theorem dX0_copy_57 : decode cX0_copy 57 = .ok (.astore 6, 2) := dk_58 6 (dk_at dksX0_copy_2 10 rfl rfl)
theorem dX0_copy_59 : decode cX0_copy 59 = .ok (.aload_n 0, 1) := dk_42 (dk_at dksX0_copy_2 12 rfl rfl)
theorem dX0_copy_60 : decode cX0_copy 60 = .ok (.iconst 2, 1) := dk_5 (dk_at dksX0_copy_2 13 rfl rfl)
theorem dX0_copy_61 : decode cX0_copy 61 = .ok (.invokevirtual 115, 3) := dk_182 0 115 (dk_at dksX0_copy_2 14 rfl rfl)
theorem dX0_copy_64 : decode cX0_copy 64 = .ok (.ireturn, 1) := dk_172 (dk_at dksX0_copy_2 17 rfl rfl)
abbrev cX0_mean : ByteArray := prog_1_method_15_code
def yX0_mean : MethodName := ⟨RX0, "mean", "(I)I"⟩
def dkwX0_mean_3 : List UInt8 := [42, 4, 182, 0, 115, 172, 77, 42, 7, 182, 0, 115, 172]
abbrev dktX0_mean_3 : List UInt8 := dkwX0_mean_3 ++ []
def dkwX0_mean_2 : List UInt8 := [132, 6, 1, 167, 255, 233, 42, 32, 42, 180, 0, 32, 27, 50, 190, 133, 109, 136, 4, 182, 0, 123, 172, 77]
abbrev dktX0_mean_2 : List UInt8 := dkwX0_mean_2 ++ dktX0_mean_3
def dkwX0_mean_1 : List UInt8 := [3, 54, 6, 21, 6, 21, 5, 162, 0, 22, 25, 4, 21, 6, 46, 54, 7, 32, 21, 7, 133, 97, 65]
abbrev dktX0_mean_1 : List UInt8 := dkwX0_mean_1 ++ dktX0_mean_2
def dkwX0_mean_0 : List UInt8 := [27, 184, 0, 109, 154, 0, 5, 2, 172, 9, 65, 42, 180, 0, 32, 27, 50, 58, 4, 25, 4, 190, 54, 5]
abbrev dktX0_mean_0 : List UInt8 := dkwX0_mean_0 ++ dktX0_mean_1
theorem dksX0_mean_0 : cX0_mean.data.toList.drop 0 = dktX0_mean_0 := by decide +kernel
theorem dksX0_mean_1 : cX0_mean.data.toList.drop 24 = dktX0_mean_1 := dk_seg dksX0_mean_0 24 rfl rfl
theorem dksX0_mean_2 : cX0_mean.data.toList.drop 47 = dktX0_mean_2 := dk_seg dksX0_mean_1 23 rfl rfl
theorem dksX0_mean_3 : cX0_mean.data.toList.drop 71 = dktX0_mean_3 := dk_seg dksX0_mean_2 24 rfl rfl
theorem dX0_mean_0 : decode cX0_mean 0 = .ok (.iload_n 1, 1) := dk_27 (dk_at dksX0_mean_0 0 rfl rfl)
theorem dX0_mean_1 : decode cX0_mean 1 = .ok (.invokestatic 109, 3) := dk_184 0 109 (dk_at dksX0_mean_0 1 rfl rfl)
theorem dX0_mean_4 : decode cX0_mean 4 = .ok (.ifCond .ne 5, 3) := dk_154 0 5 (dk_at dksX0_mean_0 4 rfl rfl)
theorem dX0_mean_7 : decode cX0_mean 7 = .ok (.iconst (-1), 1) := dk_2 (dk_at dksX0_mean_0 7 rfl rfl)
theorem dX0_mean_8 : decode cX0_mean 8 = .ok (.ireturn, 1) := dk_172 (dk_at dksX0_mean_0 8 rfl rfl)
theorem dX0_mean_9 : decode cX0_mean 9 = .ok (.lconst 0, 1) := dk_9 (dk_at dksX0_mean_0 9 rfl rfl)
theorem dX0_mean_10 : decode cX0_mean 10 = .ok (.lstore_n 2, 1) := dk_65 (dk_at dksX0_mean_0 10 rfl rfl)
theorem dX0_mean_11 : decode cX0_mean 11 = .ok (.aload_n 0, 1) := dk_42 (dk_at dksX0_mean_0 11 rfl rfl)
theorem dX0_mean_12 : decode cX0_mean 12 = .ok (.getfield 32, 3) := dk_180 0 32 (dk_at dksX0_mean_0 12 rfl rfl)
theorem dX0_mean_15 : decode cX0_mean 15 = .ok (.iload_n 1, 1) := dk_27 (dk_at dksX0_mean_0 15 rfl rfl)
theorem dX0_mean_16 : decode cX0_mean 16 = .ok (.aaload, 1) := dk_50 (dk_at dksX0_mean_0 16 rfl rfl)
theorem dX0_mean_17 : decode cX0_mean 17 = .ok (.astore 4, 2) := dk_58 4 (dk_at dksX0_mean_0 17 rfl rfl)
theorem dX0_mean_19 : decode cX0_mean 19 = .ok (.aload 4, 2) := dk_25 4 (dk_at dksX0_mean_0 19 rfl rfl)
theorem dX0_mean_21 : decode cX0_mean 21 = .ok (.arraylength, 1) := dk_190 (dk_at dksX0_mean_0 21 rfl rfl)
theorem dX0_mean_22 : decode cX0_mean 22 = .ok (.istore 5, 2) := dk_54 5 (dk_at dksX0_mean_0 22 rfl rfl)
theorem dX0_mean_24 : decode cX0_mean 24 = .ok (.iconst 0, 1) := dk_3 (dk_at dksX0_mean_1 0 rfl rfl)
theorem dX0_mean_25 : decode cX0_mean 25 = .ok (.istore 6, 2) := dk_54 6 (dk_at dksX0_mean_1 1 rfl rfl)
theorem dX0_mean_27 : decode cX0_mean 27 = .ok (.iload 6, 2) := dk_21 6 (dk_at dksX0_mean_1 3 rfl rfl)
theorem dX0_mean_29 : decode cX0_mean 29 = .ok (.iload 5, 2) := dk_21 5 (dk_at dksX0_mean_1 5 rfl rfl)
theorem dX0_mean_31 : decode cX0_mean 31 = .ok (.if_icmp .ge 22, 3) := dk_162 0 22 (dk_at dksX0_mean_1 7 rfl rfl)
theorem dX0_mean_34 : decode cX0_mean 34 = .ok (.aload 4, 2) := dk_25 4 (dk_at dksX0_mean_1 10 rfl rfl)
theorem dX0_mean_36 : decode cX0_mean 36 = .ok (.iload 6, 2) := dk_21 6 (dk_at dksX0_mean_1 12 rfl rfl)
theorem dX0_mean_38 : decode cX0_mean 38 = .ok (.iaload, 1) := dk_46 (dk_at dksX0_mean_1 14 rfl rfl)
theorem dX0_mean_39 : decode cX0_mean 39 = .ok (.istore 7, 2) := dk_54 7 (dk_at dksX0_mean_1 15 rfl rfl)
theorem dX0_mean_41 : decode cX0_mean 41 = .ok (.lload_n 2, 1) := dk_32 (dk_at dksX0_mean_1 17 rfl rfl)
theorem dX0_mean_42 : decode cX0_mean 42 = .ok (.iload 7, 2) := dk_21 7 (dk_at dksX0_mean_1 18 rfl rfl)
theorem dX0_mean_44 : decode cX0_mean 44 = .ok (.i2l, 1) := dk_133 (dk_at dksX0_mean_1 20 rfl rfl)
theorem dX0_mean_45 : decode cX0_mean 45 = .ok (.ladd, 1) := dk_97 (dk_at dksX0_mean_1 21 rfl rfl)
theorem dX0_mean_46 : decode cX0_mean 46 = .ok (.lstore_n 2, 1) := dk_65 (dk_at dksX0_mean_1 22 rfl rfl)
theorem dX0_mean_47 : decode cX0_mean 47 = .ok (.iinc 6 1, 3) := dk_132 6 1 (dk_at dksX0_mean_2 0 rfl rfl)
theorem dX0_mean_50 : decode cX0_mean 50 = .ok (.goto (-23), 3) := dk_167 255 233 (dk_at dksX0_mean_2 3 rfl rfl)
theorem dX0_mean_53 : decode cX0_mean 53 = .ok (.aload_n 0, 1) := dk_42 (dk_at dksX0_mean_2 6 rfl rfl)
theorem dX0_mean_54 : decode cX0_mean 54 = .ok (.lload_n 2, 1) := dk_32 (dk_at dksX0_mean_2 7 rfl rfl)
theorem dX0_mean_55 : decode cX0_mean 55 = .ok (.aload_n 0, 1) := dk_42 (dk_at dksX0_mean_2 8 rfl rfl)
theorem dX0_mean_56 : decode cX0_mean 56 = .ok (.getfield 32, 3) := dk_180 0 32 (dk_at dksX0_mean_2 9 rfl rfl)
theorem dX0_mean_59 : decode cX0_mean 59 = .ok (.iload_n 1, 1) := dk_27 (dk_at dksX0_mean_2 12 rfl rfl)
theorem dX0_mean_60 : decode cX0_mean 60 = .ok (.aaload, 1) := dk_50 (dk_at dksX0_mean_2 13 rfl rfl)
theorem dX0_mean_61 : decode cX0_mean 61 = .ok (.arraylength, 1) := dk_190 (dk_at dksX0_mean_2 14 rfl rfl)
theorem dX0_mean_62 : decode cX0_mean 62 = .ok (.i2l, 1) := dk_133 (dk_at dksX0_mean_2 15 rfl rfl)
theorem dX0_mean_63 : decode cX0_mean 63 = .ok (.ldiv, 1) := dk_109 (dk_at dksX0_mean_2 16 rfl rfl)
theorem dX0_mean_64 : decode cX0_mean 64 = .ok (.l2i, 1) := dk_136 (dk_at dksX0_mean_2 17 rfl rfl)
theorem dX0_mean_65 : decode cX0_mean 65 = .ok (.iconst 1, 1) := dk_4 (dk_at dksX0_mean_2 18 rfl rfl)
theorem dX0_mean_66 : decode cX0_mean 66 = .ok (.invokevirtual 123, 3) := dk_182 0 123 (dk_at dksX0_mean_2 19 rfl rfl)
theorem dX0_mean_69 : decode cX0_mean 69 = .ok (.ireturn, 1) := dk_172 (dk_at dksX0_mean_2 22 rfl rfl)
theorem dX0_mean_70 : decode cX0_mean 70 = .ok (.astore_n 2, 1) := dk_77 (dk_at dksX0_mean_2 23 rfl rfl)
theorem dX0_mean_71 : decode cX0_mean 71 = .ok (.aload_n 0, 1) := dk_42 (dk_at dksX0_mean_3 0 rfl rfl)
theorem dX0_mean_72 : decode cX0_mean 72 = .ok (.iconst 1, 1) := dk_4 (dk_at dksX0_mean_3 1 rfl rfl)
theorem dX0_mean_73 : decode cX0_mean 73 = .ok (.invokevirtual 115, 3) := dk_182 0 115 (dk_at dksX0_mean_3 2 rfl rfl)
theorem dX0_mean_76 : decode cX0_mean 76 = .ok (.ireturn, 1) := dk_172 (dk_at dksX0_mean_3 5 rfl rfl)
theorem dX0_mean_77 : decode cX0_mean 77 = .ok (.astore_n 2, 1) := dk_77 (dk_at dksX0_mean_3 6 rfl rfl)
theorem dX0_mean_78 : decode cX0_mean 78 = .ok (.aload_n 0, 1) := dk_42 (dk_at dksX0_mean_3 7 rfl rfl)
theorem dX0_mean_79 : decode cX0_mean 79 = .ok (.iconst 4, 1) := dk_7 (dk_at dksX0_mean_3 8 rfl rfl)
theorem dX0_mean_80 : decode cX0_mean 80 = .ok (.invokevirtual 115, 3) := dk_182 0 115 (dk_at dksX0_mean_3 9 rfl rfl)
theorem dX0_mean_83 : decode cX0_mean 83 = .ok (.ireturn, 1) := dk_172 (dk_at dksX0_mean_3 12 rfl rfl)
abbrev cX0_text : ByteArray := prog_1_method_16_code
def yX0_text : MethodName := ⟨RX0, "text", "(II)I"⟩
def dkwX0_text_2 : List UInt8 := [172, 78, 42, 8, 182, 0, 115, 172]
abbrev dktX0_text_2 : List UInt8 := dkwX0_text_2 ++ []
def dkwX0_text_1 : List UInt8 := [28, 162, 0, 15, 45, 21, 4, 16, 32, 84, 132, 4, 1, 167, 255, 241, 42, 180, 0, 38, 27, 45, 83, 28]
abbrev dktX0_text_1 : List UInt8 := dkwX0_text_1 ++ dktX0_text_2
def dkwX0_text_0 : List UInt8 := [27, 184, 0, 140, 153, 0, 9, 28, 16, 60, 164, 0, 5, 2, 172, 28, 188, 8, 78, 3, 54, 4, 21, 4]
abbrev dktX0_text_0 : List UInt8 := dkwX0_text_0 ++ dktX0_text_1
theorem dksX0_text_0 : cX0_text.data.toList.drop 0 = dktX0_text_0 := by decide +kernel
theorem dksX0_text_1 : cX0_text.data.toList.drop 24 = dktX0_text_1 := dk_seg dksX0_text_0 24 rfl rfl
theorem dksX0_text_2 : cX0_text.data.toList.drop 48 = dktX0_text_2 := dk_seg dksX0_text_1 24 rfl rfl
theorem dX0_text_0 : decode cX0_text 0 = .ok (.iload_n 1, 1) := dk_27 (dk_at dksX0_text_0 0 rfl rfl)
theorem dX0_text_1 : decode cX0_text 1 = .ok (.invokestatic 140, 3) := dk_184 0 140 (dk_at dksX0_text_0 1 rfl rfl)
theorem dX0_text_4 : decode cX0_text 4 = .ok (.ifCond .eq 9, 3) := dk_153 0 9 (dk_at dksX0_text_0 4 rfl rfl)
theorem dX0_text_7 : decode cX0_text 7 = .ok (.iload_n 2, 1) := dk_28 (dk_at dksX0_text_0 7 rfl rfl)
theorem dX0_text_8 : decode cX0_text 8 = .ok (.bipush 60, 2) := dk_16 60 (dk_at dksX0_text_0 8 rfl rfl)
theorem dX0_text_10 : decode cX0_text 10 = .ok (.if_icmp .le 5, 3) := dk_164 0 5 (dk_at dksX0_text_0 10 rfl rfl)
theorem dX0_text_13 : decode cX0_text 13 = .ok (.iconst (-1), 1) := dk_2 (dk_at dksX0_text_0 13 rfl rfl)
theorem dX0_text_14 : decode cX0_text 14 = .ok (.ireturn, 1) := dk_172 (dk_at dksX0_text_0 14 rfl rfl)
theorem dX0_text_15 : decode cX0_text 15 = .ok (.iload_n 2, 1) := dk_28 (dk_at dksX0_text_0 15 rfl rfl)
theorem dX0_text_16 : decode cX0_text 16 = .ok (.newarray .byte, 2) := dk_188_8 (dk_at dksX0_text_0 16 rfl rfl)
theorem dX0_text_18 : decode cX0_text 18 = .ok (.astore_n 3, 1) := dk_78 (dk_at dksX0_text_0 18 rfl rfl)
theorem dX0_text_19 : decode cX0_text 19 = .ok (.iconst 0, 1) := dk_3 (dk_at dksX0_text_0 19 rfl rfl)
theorem dX0_text_20 : decode cX0_text 20 = .ok (.istore 4, 2) := dk_54 4 (dk_at dksX0_text_0 20 rfl rfl)
theorem dX0_text_22 : decode cX0_text 22 = .ok (.iload 4, 2) := dk_21 4 (dk_at dksX0_text_0 22 rfl rfl)
theorem dX0_text_24 : decode cX0_text 24 = .ok (.iload_n 2, 1) := dk_28 (dk_at dksX0_text_1 0 rfl rfl)
theorem dX0_text_25 : decode cX0_text 25 = .ok (.if_icmp .ge 15, 3) := dk_162 0 15 (dk_at dksX0_text_1 1 rfl rfl)
theorem dX0_text_28 : decode cX0_text 28 = .ok (.aload_n 3, 1) := dk_45 (dk_at dksX0_text_1 4 rfl rfl)
theorem dX0_text_29 : decode cX0_text 29 = .ok (.iload 4, 2) := dk_21 4 (dk_at dksX0_text_1 5 rfl rfl)
theorem dX0_text_31 : decode cX0_text 31 = .ok (.bipush 32, 2) := dk_16 32 (dk_at dksX0_text_1 7 rfl rfl)
theorem dX0_text_33 : decode cX0_text 33 = .ok (.bastore, 1) := dk_84 (dk_at dksX0_text_1 9 rfl rfl)
theorem dX0_text_34 : decode cX0_text 34 = .ok (.iinc 4 1, 3) := dk_132 4 1 (dk_at dksX0_text_1 10 rfl rfl)
theorem dX0_text_37 : decode cX0_text 37 = .ok (.goto (-15), 3) := dk_167 255 241 (dk_at dksX0_text_1 13 rfl rfl)
theorem dX0_text_40 : decode cX0_text 40 = .ok (.aload_n 0, 1) := dk_42 (dk_at dksX0_text_1 16 rfl rfl)
theorem dX0_text_41 : decode cX0_text 41 = .ok (.getfield 38, 3) := dk_180 0 38 (dk_at dksX0_text_1 17 rfl rfl)
theorem dX0_text_44 : decode cX0_text 44 = .ok (.iload_n 1, 1) := dk_27 (dk_at dksX0_text_1 20 rfl rfl)
theorem dX0_text_45 : decode cX0_text 45 = .ok (.aload_n 3, 1) := dk_45 (dk_at dksX0_text_1 21 rfl rfl)
theorem dX0_text_46 : decode cX0_text 46 = .ok (.aastore, 1) := dk_83 (dk_at dksX0_text_1 22 rfl rfl)
theorem dX0_text_47 : decode cX0_text 47 = .ok (.iload_n 2, 1) := dk_28 (dk_at dksX0_text_1 23 rfl rfl)
theorem dX0_text_48 : decode cX0_text 48 = .ok (.ireturn, 1) := dk_172 (dk_at dksX0_text_2 0 rfl rfl)
theorem dX0_text_49 : decode cX0_text 49 = .ok (.astore_n 3, 1) := dk_78 (dk_at dksX0_text_2 1 rfl rfl)
theorem dX0_text_50 : decode cX0_text 50 = .ok (.aload_n 0, 1) := dk_42 (dk_at dksX0_text_2 2 rfl rfl)
theorem dX0_text_51 : decode cX0_text 51 = .ok (.iconst 5, 1) := dk_8 (dk_at dksX0_text_2 3 rfl rfl)
theorem dX0_text_52 : decode cX0_text 52 = .ok (.invokevirtual 115, 3) := dk_182 0 115 (dk_at dksX0_text_2 4 rfl rfl)
theorem dX0_text_55 : decode cX0_text 55 = .ok (.ireturn, 1) := dk_172 (dk_at dksX0_text_2 7 rfl rfl)
abbrev cX0_isText : ByteArray := prog_1_method_9_code
def yX0_isText : MethodName := ⟨RX0, "isText", "(I)Z"⟩
def dkwX0_isText_0 : List UInt8 := [26, 3, 6, 184, 0, 105, 172]
abbrev dktX0_isText_0 : List UInt8 := dkwX0_isText_0 ++ []
theorem dksX0_isText_0 : cX0_isText.data.toList.drop 0 = dktX0_isText_0 := by decide +kernel
theorem dX0_isText_0 : decode cX0_isText 0 = .ok (.iload_n 0, 1) := dk_26 (dk_at dksX0_isText_0 0 rfl rfl)
theorem dX0_isText_1 : decode cX0_isText 1 = .ok (.iconst 0, 1) := dk_3 (dk_at dksX0_isText_0 1 rfl rfl)
theorem dX0_isText_2 : decode cX0_isText 2 = .ok (.iconst 3, 1) := dk_6 (dk_at dksX0_isText_0 2 rfl rfl)
theorem dX0_isText_3 : decode cX0_isText 3 = .ok (.invokestatic 105, 3) := dk_184 0 105 (dk_at dksX0_isText_0 3 rfl rfl)
theorem dX0_isText_6 : decode cX0_isText 6 = .ok (.ireturn, 1) := dk_172 (dk_at dksX0_isText_0 6 rfl rfl)
abbrev cX0_put : ByteArray := prog_1_method_17_code
def yX0_put : MethodName := ⟨RX0, "put", "(III)I"⟩
def dkwX0_put_2 : List UInt8 := [182, 0, 115, 172]
abbrev dktX0_put_2 : List UInt8 := dkwX0_put_2 ++ []
def dkwX0_put_1 : List UInt8 := [50, 28, 29, 145, 84, 21, 4, 17, 3, 232, 96, 172, 58, 4, 42, 4, 182, 0, 115, 172, 58, 4, 42, 5]
abbrev dktX0_put_1 : List UInt8 := dkwX0_put_1 ++ dktX0_put_2
def dkwX0_put_0 : List UInt8 := [27, 184, 0, 140, 154, 0, 5, 2, 172, 42, 180, 0, 38, 27, 50, 28, 51, 54, 4, 42, 180, 0, 38, 27]
abbrev dktX0_put_0 : List UInt8 := dkwX0_put_0 ++ dktX0_put_1
theorem dksX0_put_0 : cX0_put.data.toList.drop 0 = dktX0_put_0 := by decide +kernel
theorem dksX0_put_1 : cX0_put.data.toList.drop 24 = dktX0_put_1 := dk_seg dksX0_put_0 24 rfl rfl
theorem dksX0_put_2 : cX0_put.data.toList.drop 48 = dktX0_put_2 := dk_seg dksX0_put_1 24 rfl rfl
theorem dX0_put_0 : decode cX0_put 0 = .ok (.iload_n 1, 1) := dk_27 (dk_at dksX0_put_0 0 rfl rfl)
theorem dX0_put_1 : decode cX0_put 1 = .ok (.invokestatic 140, 3) := dk_184 0 140 (dk_at dksX0_put_0 1 rfl rfl)
theorem dX0_put_4 : decode cX0_put 4 = .ok (.ifCond .ne 5, 3) := dk_154 0 5 (dk_at dksX0_put_0 4 rfl rfl)
theorem dX0_put_7 : decode cX0_put 7 = .ok (.iconst (-1), 1) := dk_2 (dk_at dksX0_put_0 7 rfl rfl)
theorem dX0_put_8 : decode cX0_put 8 = .ok (.ireturn, 1) := dk_172 (dk_at dksX0_put_0 8 rfl rfl)
theorem dX0_put_9 : decode cX0_put 9 = .ok (.aload_n 0, 1) := dk_42 (dk_at dksX0_put_0 9 rfl rfl)
theorem dX0_put_10 : decode cX0_put 10 = .ok (.getfield 38, 3) := dk_180 0 38 (dk_at dksX0_put_0 10 rfl rfl)
theorem dX0_put_13 : decode cX0_put 13 = .ok (.iload_n 1, 1) := dk_27 (dk_at dksX0_put_0 13 rfl rfl)
theorem dX0_put_14 : decode cX0_put 14 = .ok (.aaload, 1) := dk_50 (dk_at dksX0_put_0 14 rfl rfl)
theorem dX0_put_15 : decode cX0_put 15 = .ok (.iload_n 2, 1) := dk_28 (dk_at dksX0_put_0 15 rfl rfl)
theorem dX0_put_16 : decode cX0_put 16 = .ok (.baload, 1) := dk_51 (dk_at dksX0_put_0 16 rfl rfl)
theorem dX0_put_17 : decode cX0_put 17 = .ok (.istore 4, 2) := dk_54 4 (dk_at dksX0_put_0 17 rfl rfl)
theorem dX0_put_19 : decode cX0_put 19 = .ok (.aload_n 0, 1) := dk_42 (dk_at dksX0_put_0 19 rfl rfl)
theorem dX0_put_20 : decode cX0_put 20 = .ok (.getfield 38, 3) := dk_180 0 38 (dk_at dksX0_put_0 20 rfl rfl)
theorem dX0_put_23 : decode cX0_put 23 = .ok (.iload_n 1, 1) := dk_27 (dk_at dksX0_put_0 23 rfl rfl)
theorem dX0_put_24 : decode cX0_put 24 = .ok (.aaload, 1) := dk_50 (dk_at dksX0_put_1 0 rfl rfl)
theorem dX0_put_25 : decode cX0_put 25 = .ok (.iload_n 2, 1) := dk_28 (dk_at dksX0_put_1 1 rfl rfl)
theorem dX0_put_26 : decode cX0_put 26 = .ok (.iload_n 3, 1) := dk_29 (dk_at dksX0_put_1 2 rfl rfl)
theorem dX0_put_27 : decode cX0_put 27 = .ok (.i2b, 1) := dk_145 (dk_at dksX0_put_1 3 rfl rfl)
theorem dX0_put_28 : decode cX0_put 28 = .ok (.bastore, 1) := dk_84 (dk_at dksX0_put_1 4 rfl rfl)
theorem dX0_put_29 : decode cX0_put 29 = .ok (.iload 4, 2) := dk_21 4 (dk_at dksX0_put_1 5 rfl rfl)
theorem dX0_put_31 : decode cX0_put 31 = .ok (.sipush 1000, 3) := dk_17 3 232 (dk_at dksX0_put_1 7 rfl rfl)
theorem dX0_put_34 : decode cX0_put 34 = .ok (.iadd, 1) := dk_96 (dk_at dksX0_put_1 10 rfl rfl)
theorem dX0_put_35 : decode cX0_put 35 = .ok (.ireturn, 1) := dk_172 (dk_at dksX0_put_1 11 rfl rfl)
theorem dX0_put_36 : decode cX0_put 36 = .ok (.astore 4, 2) := dk_58 4 (dk_at dksX0_put_1 12 rfl rfl)
theorem dX0_put_38 : decode cX0_put 38 = .ok (.aload_n 0, 1) := dk_42 (dk_at dksX0_put_1 14 rfl rfl)
theorem dX0_put_39 : decode cX0_put 39 = .ok (.iconst 1, 1) := dk_4 (dk_at dksX0_put_1 15 rfl rfl)
theorem dX0_put_40 : decode cX0_put 40 = .ok (.invokevirtual 115, 3) := dk_182 0 115 (dk_at dksX0_put_1 16 rfl rfl)
theorem dX0_put_43 : decode cX0_put 43 = .ok (.ireturn, 1) := dk_172 (dk_at dksX0_put_1 19 rfl rfl)
theorem dX0_put_44 : decode cX0_put 44 = .ok (.astore 4, 2) := dk_58 4 (dk_at dksX0_put_1 20 rfl rfl)
theorem dX0_put_46 : decode cX0_put 46 = .ok (.aload_n 0, 1) := dk_42 (dk_at dksX0_put_1 22 rfl rfl)
theorem dX0_put_47 : decode cX0_put 47 = .ok (.iconst 2, 1) := dk_5 (dk_at dksX0_put_1 23 rfl rfl)
theorem dX0_put_48 : decode cX0_put 48 = .ok (.invokevirtual 115, 3) := dk_182 0 115 (dk_at dksX0_put_2 0 rfl rfl)
theorem dX0_put_51 : decode cX0_put 51 = .ok (.ireturn, 1) := dk_172 (dk_at dksX0_put_2 3 rfl rfl)
abbrev cX0_fault : ByteArray := prog_1_method_24_code
def yX0_fault : MethodName := ⟨RX0, "fault", "(I)I"⟩
def dkwX0_fault_1 : List UInt8 := [167, 0, 13, 42, 42, 180, 0, 38, 27, 50, 182, 0, 187, 172]
abbrev dktX0_fault_1 : List UInt8 := dkwX0_fault_1 ++ []
def dkwX0_fault_0 : List UInt8 := [27, 184, 0, 140, 154, 0, 5, 2, 172, 42, 180, 0, 38, 27, 50, 199, 0, 11, 42, 4, 182, 0, 115]
abbrev dktX0_fault_0 : List UInt8 := dkwX0_fault_0 ++ dktX0_fault_1
theorem dksX0_fault_0 : cX0_fault.data.toList.drop 0 = dktX0_fault_0 := by decide +kernel
theorem dksX0_fault_1 : cX0_fault.data.toList.drop 23 = dktX0_fault_1 := dk_seg dksX0_fault_0 23 rfl rfl
theorem dX0_fault_0 : decode cX0_fault 0 = .ok (.iload_n 1, 1) := dk_27 (dk_at dksX0_fault_0 0 rfl rfl)
theorem dX0_fault_1 : decode cX0_fault 1 = .ok (.invokestatic 140, 3) := dk_184 0 140 (dk_at dksX0_fault_0 1 rfl rfl)
theorem dX0_fault_4 : decode cX0_fault 4 = .ok (.ifCond .ne 5, 3) := dk_154 0 5 (dk_at dksX0_fault_0 4 rfl rfl)
theorem dX0_fault_7 : decode cX0_fault 7 = .ok (.iconst (-1), 1) := dk_2 (dk_at dksX0_fault_0 7 rfl rfl)
theorem dX0_fault_8 : decode cX0_fault 8 = .ok (.ireturn, 1) := dk_172 (dk_at dksX0_fault_0 8 rfl rfl)
theorem dX0_fault_9 : decode cX0_fault 9 = .ok (.aload_n 0, 1) := dk_42 (dk_at dksX0_fault_0 9 rfl rfl)
theorem dX0_fault_10 : decode cX0_fault 10 = .ok (.getfield 38, 3) := dk_180 0 38 (dk_at dksX0_fault_0 10 rfl rfl)
theorem dX0_fault_13 : decode cX0_fault 13 = .ok (.iload_n 1, 1) := dk_27 (dk_at dksX0_fault_0 13 rfl rfl)
theorem dX0_fault_14 : decode cX0_fault 14 = .ok (.aaload, 1) := dk_50 (dk_at dksX0_fault_0 14 rfl rfl)
theorem dX0_fault_15 : decode cX0_fault 15 = .ok (.ifnonnull 11, 3) := dk_199 0 11 (dk_at dksX0_fault_0 15 rfl rfl)
theorem dX0_fault_18 : decode cX0_fault 18 = .ok (.aload_n 0, 1) := dk_42 (dk_at dksX0_fault_0 18 rfl rfl)
theorem dX0_fault_19 : decode cX0_fault 19 = .ok (.iconst 1, 1) := dk_4 (dk_at dksX0_fault_0 19 rfl rfl)
theorem dX0_fault_20 : decode cX0_fault 20 = .ok (.invokevirtual 115, 3) := dk_182 0 115 (dk_at dksX0_fault_0 20 rfl rfl)
theorem dX0_fault_23 : decode cX0_fault 23 = .ok (.goto 13, 3) := dk_167 0 13 (dk_at dksX0_fault_1 0 rfl rfl)
theorem dX0_fault_26 : decode cX0_fault 26 = .ok (.aload_n 0, 1) := dk_42 (dk_at dksX0_fault_1 3 rfl rfl)
theorem dX0_fault_27 : decode cX0_fault 27 = .ok (.aload_n 0, 1) := dk_42 (dk_at dksX0_fault_1 4 rfl rfl)
theorem dX0_fault_28 : decode cX0_fault 28 = .ok (.getfield 38, 3) := dk_180 0 38 (dk_at dksX0_fault_1 5 rfl rfl)
theorem dX0_fault_31 : decode cX0_fault 31 = .ok (.iload_n 1, 1) := dk_27 (dk_at dksX0_fault_1 8 rfl rfl)
theorem dX0_fault_32 : decode cX0_fault 32 = .ok (.aaload, 1) := dk_50 (dk_at dksX0_fault_1 9 rfl rfl)
theorem dX0_fault_33 : decode cX0_fault 33 = .ok (.invokevirtual 187, 3) := dk_182 0 187 (dk_at dksX0_fault_1 10 rfl rfl)
theorem dX0_fault_36 : decode cX0_fault 36 = .ok (.ireturn, 1) := dk_172 (dk_at dksX0_fault_1 13 rfl rfl)
abbrev cX0_goesOn : ByteArray := prog_1_method_23_code
def yX0_goesOn : MethodName := ⟨RX0, "goesOn", "([B)I"⟩
def dkwX0_goesOn_3 : List UInt8 := [154, 255, 204, 42, 180, 0, 161, 172, 42, 180, 0, 174, 154, 0, 8, 43, 190, 167, 0, 5, 16, 247, 172]
abbrev dktX0_goesOn_3 : List UInt8 := dkwX0_goesOn_3 ++ []
def dkwX0_goesOn_2 : List UInt8 := [167, 255, 228, 42, 180, 0, 174, 154, 0, 13, 42, 182, 0, 180, 154, 255, 214, 167, 0, 10, 42, 182, 0, 184]
abbrev dktX0_goesOn_2 : List UInt8 := dkwX0_goesOn_2 ++ dktX0_goesOn_3
def dkwX0_goesOn_1 : List UInt8 := [43, 190, 162, 0, 54, 42, 182, 0, 167, 16, 32, 160, 0, 16, 42, 89, 180, 0, 161, 4, 96, 181, 0, 161]
abbrev dktX0_goesOn_1 : List UInt8 := dkwX0_goesOn_1 ++ dktX0_goesOn_2
def dkwX0_goesOn_0 : List UInt8 := [42, 43, 181, 0, 164, 42, 3, 181, 0, 161, 42, 3, 181, 0, 174, 42, 3, 181, 0, 177, 42, 180, 0, 161]
abbrev dktX0_goesOn_0 : List UInt8 := dkwX0_goesOn_0 ++ dktX0_goesOn_1
theorem dksX0_goesOn_0 : cX0_goesOn.data.toList.drop 0 = dktX0_goesOn_0 := by decide +kernel
theorem dksX0_goesOn_1 : cX0_goesOn.data.toList.drop 24 = dktX0_goesOn_1 := dk_seg dksX0_goesOn_0 24 rfl rfl
theorem dksX0_goesOn_2 : cX0_goesOn.data.toList.drop 48 = dktX0_goesOn_2 := dk_seg dksX0_goesOn_1 24 rfl rfl
theorem dksX0_goesOn_3 : cX0_goesOn.data.toList.drop 72 = dktX0_goesOn_3 := dk_seg dksX0_goesOn_2 24 rfl rfl
theorem dX0_goesOn_0 : decode cX0_goesOn 0 = .ok (.aload_n 0, 1) := dk_42 (dk_at dksX0_goesOn_0 0 rfl rfl)
theorem dX0_goesOn_1 : decode cX0_goesOn 1 = .ok (.aload_n 1, 1) := dk_43 (dk_at dksX0_goesOn_0 1 rfl rfl)
theorem dX0_goesOn_2 : decode cX0_goesOn 2 = .ok (.putfield 164, 3) := dk_181 0 164 (dk_at dksX0_goesOn_0 2 rfl rfl)
theorem dX0_goesOn_5 : decode cX0_goesOn 5 = .ok (.aload_n 0, 1) := dk_42 (dk_at dksX0_goesOn_0 5 rfl rfl)
theorem dX0_goesOn_6 : decode cX0_goesOn 6 = .ok (.iconst 0, 1) := dk_3 (dk_at dksX0_goesOn_0 6 rfl rfl)
theorem dX0_goesOn_7 : decode cX0_goesOn 7 = .ok (.putfield 161, 3) := dk_181 0 161 (dk_at dksX0_goesOn_0 7 rfl rfl)
theorem dX0_goesOn_10 : decode cX0_goesOn 10 = .ok (.aload_n 0, 1) := dk_42 (dk_at dksX0_goesOn_0 10 rfl rfl)
theorem dX0_goesOn_11 : decode cX0_goesOn 11 = .ok (.iconst 0, 1) := dk_3 (dk_at dksX0_goesOn_0 11 rfl rfl)
theorem dX0_goesOn_12 : decode cX0_goesOn 12 = .ok (.putfield 174, 3) := dk_181 0 174 (dk_at dksX0_goesOn_0 12 rfl rfl)
theorem dX0_goesOn_15 : decode cX0_goesOn 15 = .ok (.aload_n 0, 1) := dk_42 (dk_at dksX0_goesOn_0 15 rfl rfl)
theorem dX0_goesOn_16 : decode cX0_goesOn 16 = .ok (.iconst 0, 1) := dk_3 (dk_at dksX0_goesOn_0 16 rfl rfl)
theorem dX0_goesOn_17 : decode cX0_goesOn 17 = .ok (.putfield 177, 3) := dk_181 0 177 (dk_at dksX0_goesOn_0 17 rfl rfl)
theorem dX0_goesOn_20 : decode cX0_goesOn 20 = .ok (.aload_n 0, 1) := dk_42 (dk_at dksX0_goesOn_0 20 rfl rfl)
theorem dX0_goesOn_21 : decode cX0_goesOn 21 = .ok (.getfield 161, 3) := dk_180 0 161 (dk_at dksX0_goesOn_0 21 rfl rfl)
theorem dX0_goesOn_24 : decode cX0_goesOn 24 = .ok (.aload_n 1, 1) := dk_43 (dk_at dksX0_goesOn_1 0 rfl rfl)
theorem dX0_goesOn_25 : decode cX0_goesOn 25 = .ok (.arraylength, 1) := dk_190 (dk_at dksX0_goesOn_1 1 rfl rfl)
theorem dX0_goesOn_26 : decode cX0_goesOn 26 = .ok (.if_icmp .ge 54, 3) := dk_162 0 54 (dk_at dksX0_goesOn_1 2 rfl rfl)
theorem dX0_goesOn_29 : decode cX0_goesOn 29 = .ok (.aload_n 0, 1) := dk_42 (dk_at dksX0_goesOn_1 5 rfl rfl)
theorem dX0_goesOn_30 : decode cX0_goesOn 30 = .ok (.invokevirtual 167, 3) := dk_182 0 167 (dk_at dksX0_goesOn_1 6 rfl rfl)
theorem dX0_goesOn_33 : decode cX0_goesOn 33 = .ok (.bipush 32, 2) := dk_16 32 (dk_at dksX0_goesOn_1 9 rfl rfl)
theorem dX0_goesOn_35 : decode cX0_goesOn 35 = .ok (.if_icmp .ne 16, 3) := dk_160 0 16 (dk_at dksX0_goesOn_1 11 rfl rfl)
theorem dX0_goesOn_38 : decode cX0_goesOn 38 = .ok (.aload_n 0, 1) := dk_42 (dk_at dksX0_goesOn_1 14 rfl rfl)
theorem dX0_goesOn_39 : decode cX0_goesOn 39 = .ok (.dup, 1) := dk_89 (dk_at dksX0_goesOn_1 15 rfl rfl)
theorem dX0_goesOn_40 : decode cX0_goesOn 40 = .ok (.getfield 161, 3) := dk_180 0 161 (dk_at dksX0_goesOn_1 16 rfl rfl)
theorem dX0_goesOn_43 : decode cX0_goesOn 43 = .ok (.iconst 1, 1) := dk_4 (dk_at dksX0_goesOn_1 19 rfl rfl)
theorem dX0_goesOn_44 : decode cX0_goesOn 44 = .ok (.iadd, 1) := dk_96 (dk_at dksX0_goesOn_1 20 rfl rfl)
theorem dX0_goesOn_45 : decode cX0_goesOn 45 = .ok (.putfield 161, 3) := dk_181 0 161 (dk_at dksX0_goesOn_1 21 rfl rfl)
theorem dX0_goesOn_48 : decode cX0_goesOn 48 = .ok (.goto (-28), 3) := dk_167 255 228 (dk_at dksX0_goesOn_2 0 rfl rfl)
theorem dX0_goesOn_51 : decode cX0_goesOn 51 = .ok (.aload_n 0, 1) := dk_42 (dk_at dksX0_goesOn_2 3 rfl rfl)
theorem dX0_goesOn_52 : decode cX0_goesOn 52 = .ok (.getfield 174, 3) := dk_180 0 174 (dk_at dksX0_goesOn_2 4 rfl rfl)
theorem dX0_goesOn_55 : decode cX0_goesOn 55 = .ok (.ifCond .ne 13, 3) := dk_154 0 13 (dk_at dksX0_goesOn_2 7 rfl rfl)
theorem dX0_goesOn_58 : decode cX0_goesOn 58 = .ok (.aload_n 0, 1) := dk_42 (dk_at dksX0_goesOn_2 10 rfl rfl)
theorem dX0_goesOn_59 : decode cX0_goesOn 59 = .ok (.invokevirtual 180, 3) := dk_182 0 180 (dk_at dksX0_goesOn_2 11 rfl rfl)
theorem dX0_goesOn_62 : decode cX0_goesOn 62 = .ok (.ifCond .ne (-42), 3) := dk_154 255 214 (dk_at dksX0_goesOn_2 14 rfl rfl)
theorem dX0_goesOn_65 : decode cX0_goesOn 65 = .ok (.goto 10, 3) := dk_167 0 10 (dk_at dksX0_goesOn_2 17 rfl rfl)
theorem dX0_goesOn_68 : decode cX0_goesOn 68 = .ok (.aload_n 0, 1) := dk_42 (dk_at dksX0_goesOn_2 20 rfl rfl)
theorem dX0_goesOn_69 : decode cX0_goesOn 69 = .ok (.invokevirtual 184, 3) := dk_182 0 184 (dk_at dksX0_goesOn_2 21 rfl rfl)
theorem dX0_goesOn_72 : decode cX0_goesOn 72 = .ok (.ifCond .ne (-52), 3) := dk_154 255 204 (dk_at dksX0_goesOn_3 0 rfl rfl)
theorem dX0_goesOn_75 : decode cX0_goesOn 75 = .ok (.aload_n 0, 1) := dk_42 (dk_at dksX0_goesOn_3 3 rfl rfl)
theorem dX0_goesOn_76 : decode cX0_goesOn 76 = .ok (.getfield 161, 3) := dk_180 0 161 (dk_at dksX0_goesOn_3 4 rfl rfl)
theorem dX0_goesOn_79 : decode cX0_goesOn 79 = .ok (.ireturn, 1) := dk_172 (dk_at dksX0_goesOn_3 7 rfl rfl)
theorem dX0_goesOn_80 : decode cX0_goesOn 80 = .ok (.aload_n 0, 1) := dk_42 (dk_at dksX0_goesOn_3 8 rfl rfl)
theorem dX0_goesOn_81 : decode cX0_goesOn 81 = .ok (.getfield 174, 3) := dk_180 0 174 (dk_at dksX0_goesOn_3 9 rfl rfl)
theorem dX0_goesOn_84 : decode cX0_goesOn 84 = .ok (.ifCond .ne 8, 3) := dk_154 0 8 (dk_at dksX0_goesOn_3 12 rfl rfl)
theorem dX0_goesOn_87 : decode cX0_goesOn 87 = .ok (.aload_n 1, 1) := dk_43 (dk_at dksX0_goesOn_3 15 rfl rfl)
theorem dX0_goesOn_88 : decode cX0_goesOn 88 = .ok (.arraylength, 1) := dk_190 (dk_at dksX0_goesOn_3 16 rfl rfl)
theorem dX0_goesOn_89 : decode cX0_goesOn 89 = .ok (.goto 5, 3) := dk_167 0 5 (dk_at dksX0_goesOn_3 17 rfl rfl)
theorem dX0_goesOn_92 : decode cX0_goesOn 92 = .ok (.bipush (-9), 2) := dk_16 247 (dk_at dksX0_goesOn_3 20 rfl rfl)
theorem dX0_goesOn_94 : decode cX0_goesOn 94 = .ok (.ireturn, 1) := dk_172 (dk_at dksX0_goesOn_3 22 rfl rfl)
abbrev cX0_here : ByteArray := prog_1_method_19_code
def yX0_here : MethodName := ⟨RX0, "here", "()I"⟩
def dkwX0_here_1 : List UInt8 := [16, 247, 172]
abbrev dktX0_here_1 : List UInt8 := dkwX0_here_1 ++ []
def dkwX0_here_0 : List UInt8 := [42, 180, 0, 161, 42, 180, 0, 164, 190, 162, 0, 15, 42, 180, 0, 164, 42, 180, 0, 161, 51, 167, 0, 5]
abbrev dktX0_here_0 : List UInt8 := dkwX0_here_0 ++ dktX0_here_1
theorem dksX0_here_0 : cX0_here.data.toList.drop 0 = dktX0_here_0 := by decide +kernel
theorem dksX0_here_1 : cX0_here.data.toList.drop 24 = dktX0_here_1 := dk_seg dksX0_here_0 24 rfl rfl
theorem dX0_here_0 : decode cX0_here 0 = .ok (.aload_n 0, 1) := dk_42 (dk_at dksX0_here_0 0 rfl rfl)
theorem dX0_here_1 : decode cX0_here 1 = .ok (.getfield 161, 3) := dk_180 0 161 (dk_at dksX0_here_0 1 rfl rfl)
theorem dX0_here_4 : decode cX0_here 4 = .ok (.aload_n 0, 1) := dk_42 (dk_at dksX0_here_0 4 rfl rfl)
theorem dX0_here_5 : decode cX0_here 5 = .ok (.getfield 164, 3) := dk_180 0 164 (dk_at dksX0_here_0 5 rfl rfl)
theorem dX0_here_8 : decode cX0_here 8 = .ok (.arraylength, 1) := dk_190 (dk_at dksX0_here_0 8 rfl rfl)
theorem dX0_here_9 : decode cX0_here 9 = .ok (.if_icmp .ge 15, 3) := dk_162 0 15 (dk_at dksX0_here_0 9 rfl rfl)
theorem dX0_here_12 : decode cX0_here 12 = .ok (.aload_n 0, 1) := dk_42 (dk_at dksX0_here_0 12 rfl rfl)
theorem dX0_here_13 : decode cX0_here 13 = .ok (.getfield 164, 3) := dk_180 0 164 (dk_at dksX0_here_0 13 rfl rfl)
theorem dX0_here_16 : decode cX0_here 16 = .ok (.aload_n 0, 1) := dk_42 (dk_at dksX0_here_0 16 rfl rfl)
theorem dX0_here_17 : decode cX0_here 17 = .ok (.getfield 161, 3) := dk_180 0 161 (dk_at dksX0_here_0 17 rfl rfl)
theorem dX0_here_20 : decode cX0_here 20 = .ok (.baload, 1) := dk_51 (dk_at dksX0_here_0 20 rfl rfl)
theorem dX0_here_21 : decode cX0_here 21 = .ok (.goto 5, 3) := dk_167 0 5 (dk_at dksX0_here_0 21 rfl rfl)
theorem dX0_here_24 : decode cX0_here 24 = .ok (.bipush (-9), 2) := dk_16 247 (dk_at dksX0_here_1 0 rfl rfl)
theorem dX0_here_26 : decode cX0_here 26 = .ok (.ireturn, 1) := dk_172 (dk_at dksX0_here_1 2 rfl rfl)
abbrev cX0_readsHead : ByteArray := prog_1_method_21_code
def yX0_readsHead : MethodName := ⟨RX0, "readsHead", "()Z"⟩
def dkwX0_readsHead_2 : List UInt8 := [159, 0, 7, 4, 167, 0, 4, 3, 172]
abbrev dktX0_readsHead_2 : List UInt8 := dkwX0_readsHead_2 ++ []
def dkwX0_readsHead_1 : List UInt8 := [182, 0, 171, 60, 42, 27, 16, 247, 160, 0, 7, 3, 167, 0, 4, 27, 181, 0, 174, 27, 16, 247]
abbrev dktX0_readsHead_1 : List UInt8 := dkwX0_readsHead_1 ++ dktX0_readsHead_2
def dkwX0_readsHead_0 : List UInt8 := [42, 182, 0, 167, 16, 112, 159, 0, 5, 3, 172, 42, 89, 180, 0, 161, 4, 96, 181, 0, 161, 42, 4]
abbrev dktX0_readsHead_0 : List UInt8 := dkwX0_readsHead_0 ++ dktX0_readsHead_1
theorem dksX0_readsHead_0 : cX0_readsHead.data.toList.drop 0 = dktX0_readsHead_0 := by decide +kernel
theorem dksX0_readsHead_1 : cX0_readsHead.data.toList.drop 23 = dktX0_readsHead_1 := dk_seg dksX0_readsHead_0 23 rfl rfl
theorem dksX0_readsHead_2 : cX0_readsHead.data.toList.drop 45 = dktX0_readsHead_2 := dk_seg dksX0_readsHead_1 22 rfl rfl
theorem dX0_readsHead_0 : decode cX0_readsHead 0 = .ok (.aload_n 0, 1) := dk_42 (dk_at dksX0_readsHead_0 0 rfl rfl)
theorem dX0_readsHead_1 : decode cX0_readsHead 1 = .ok (.invokevirtual 167, 3) := dk_182 0 167 (dk_at dksX0_readsHead_0 1 rfl rfl)
theorem dX0_readsHead_4 : decode cX0_readsHead 4 = .ok (.bipush 112, 2) := dk_16 112 (dk_at dksX0_readsHead_0 4 rfl rfl)
theorem dX0_readsHead_6 : decode cX0_readsHead 6 = .ok (.if_icmp .eq 5, 3) := dk_159 0 5 (dk_at dksX0_readsHead_0 6 rfl rfl)
theorem dX0_readsHead_9 : decode cX0_readsHead 9 = .ok (.iconst 0, 1) := dk_3 (dk_at dksX0_readsHead_0 9 rfl rfl)
theorem dX0_readsHead_10 : decode cX0_readsHead 10 = .ok (.ireturn, 1) := dk_172 (dk_at dksX0_readsHead_0 10 rfl rfl)
theorem dX0_readsHead_11 : decode cX0_readsHead 11 = .ok (.aload_n 0, 1) := dk_42 (dk_at dksX0_readsHead_0 11 rfl rfl)
theorem dX0_readsHead_12 : decode cX0_readsHead 12 = .ok (.dup, 1) := dk_89 (dk_at dksX0_readsHead_0 12 rfl rfl)
theorem dX0_readsHead_13 : decode cX0_readsHead 13 = .ok (.getfield 161, 3) := dk_180 0 161 (dk_at dksX0_readsHead_0 13 rfl rfl)
theorem dX0_readsHead_16 : decode cX0_readsHead 16 = .ok (.iconst 1, 1) := dk_4 (dk_at dksX0_readsHead_0 16 rfl rfl)
theorem dX0_readsHead_17 : decode cX0_readsHead 17 = .ok (.iadd, 1) := dk_96 (dk_at dksX0_readsHead_0 17 rfl rfl)
theorem dX0_readsHead_18 : decode cX0_readsHead 18 = .ok (.putfield 161, 3) := dk_181 0 161 (dk_at dksX0_readsHead_0 18 rfl rfl)
theorem dX0_readsHead_21 : decode cX0_readsHead 21 = .ok (.aload_n 0, 1) := dk_42 (dk_at dksX0_readsHead_0 21 rfl rfl)
theorem dX0_readsHead_22 : decode cX0_readsHead 22 = .ok (.iconst 1, 1) := dk_4 (dk_at dksX0_readsHead_0 22 rfl rfl)
theorem dX0_readsHead_23 : decode cX0_readsHead 23 = .ok (.invokevirtual 171, 3) := dk_182 0 171 (dk_at dksX0_readsHead_1 0 rfl rfl)
theorem dX0_readsHead_26 : decode cX0_readsHead 26 = .ok (.istore_n 1, 1) := dk_60 (dk_at dksX0_readsHead_1 3 rfl rfl)
theorem dX0_readsHead_27 : decode cX0_readsHead 27 = .ok (.aload_n 0, 1) := dk_42 (dk_at dksX0_readsHead_1 4 rfl rfl)
theorem dX0_readsHead_28 : decode cX0_readsHead 28 = .ok (.iload_n 1, 1) := dk_27 (dk_at dksX0_readsHead_1 5 rfl rfl)
theorem dX0_readsHead_29 : decode cX0_readsHead 29 = .ok (.bipush (-9), 2) := dk_16 247 (dk_at dksX0_readsHead_1 6 rfl rfl)
theorem dX0_readsHead_31 : decode cX0_readsHead 31 = .ok (.if_icmp .ne 7, 3) := dk_160 0 7 (dk_at dksX0_readsHead_1 8 rfl rfl)
theorem dX0_readsHead_34 : decode cX0_readsHead 34 = .ok (.iconst 0, 1) := dk_3 (dk_at dksX0_readsHead_1 11 rfl rfl)
theorem dX0_readsHead_35 : decode cX0_readsHead 35 = .ok (.goto 4, 3) := dk_167 0 4 (dk_at dksX0_readsHead_1 12 rfl rfl)
theorem dX0_readsHead_38 : decode cX0_readsHead 38 = .ok (.iload_n 1, 1) := dk_27 (dk_at dksX0_readsHead_1 15 rfl rfl)
theorem dX0_readsHead_39 : decode cX0_readsHead 39 = .ok (.putfield 174, 3) := dk_181 0 174 (dk_at dksX0_readsHead_1 16 rfl rfl)
theorem dX0_readsHead_42 : decode cX0_readsHead 42 = .ok (.iload_n 1, 1) := dk_27 (dk_at dksX0_readsHead_1 19 rfl rfl)
theorem dX0_readsHead_43 : decode cX0_readsHead 43 = .ok (.bipush (-9), 2) := dk_16 247 (dk_at dksX0_readsHead_1 20 rfl rfl)
theorem dX0_readsHead_45 : decode cX0_readsHead 45 = .ok (.if_icmp .eq 7, 3) := dk_159 0 7 (dk_at dksX0_readsHead_2 0 rfl rfl)
theorem dX0_readsHead_48 : decode cX0_readsHead 48 = .ok (.iconst 1, 1) := dk_4 (dk_at dksX0_readsHead_2 3 rfl rfl)
theorem dX0_readsHead_49 : decode cX0_readsHead 49 = .ok (.goto 4, 3) := dk_167 0 4 (dk_at dksX0_readsHead_2 4 rfl rfl)
theorem dX0_readsHead_52 : decode cX0_readsHead 52 = .ok (.iconst 0, 1) := dk_3 (dk_at dksX0_readsHead_2 7 rfl rfl)
theorem dX0_readsHead_53 : decode cX0_readsHead 53 = .ok (.ireturn, 1) := dk_172 (dk_at dksX0_readsHead_2 8 rfl rfl)
abbrev cX0_readsFigure : ByteArray := prog_1_method_20_code
def yX0_readsFigure : MethodName := ⟨RX0, "readsFigure", "(I)I"⟩
def dkwX0_readsFigure_1 : List UInt8 := [180, 0, 161, 4, 96, 181, 0, 161, 28, 172]
abbrev dktX0_readsFigure_1 : List UInt8 := dkwX0_readsFigure_1 ++ []
def dkwX0_readsFigure_0 : List UInt8 := [42, 182, 0, 167, 16, 48, 100, 61, 28, 27, 16, 9, 184, 0, 105, 154, 0, 6, 16, 247, 172, 42, 89]
abbrev dktX0_readsFigure_0 : List UInt8 := dkwX0_readsFigure_0 ++ dktX0_readsFigure_1
theorem dksX0_readsFigure_0 : cX0_readsFigure.data.toList.drop 0 = dktX0_readsFigure_0 := by decide +kernel
theorem dksX0_readsFigure_1 : cX0_readsFigure.data.toList.drop 23 = dktX0_readsFigure_1 := dk_seg dksX0_readsFigure_0 23 rfl rfl
theorem dX0_readsFigure_0 : decode cX0_readsFigure 0 = .ok (.aload_n 0, 1) := dk_42 (dk_at dksX0_readsFigure_0 0 rfl rfl)
theorem dX0_readsFigure_1 : decode cX0_readsFigure 1 = .ok (.invokevirtual 167, 3) := dk_182 0 167 (dk_at dksX0_readsFigure_0 1 rfl rfl)
theorem dX0_readsFigure_4 : decode cX0_readsFigure 4 = .ok (.bipush 48, 2) := dk_16 48 (dk_at dksX0_readsFigure_0 4 rfl rfl)
theorem dX0_readsFigure_6 : decode cX0_readsFigure 6 = .ok (.isub, 1) := dk_100 (dk_at dksX0_readsFigure_0 6 rfl rfl)
theorem dX0_readsFigure_7 : decode cX0_readsFigure 7 = .ok (.istore_n 2, 1) := dk_61 (dk_at dksX0_readsFigure_0 7 rfl rfl)
theorem dX0_readsFigure_8 : decode cX0_readsFigure 8 = .ok (.iload_n 2, 1) := dk_28 (dk_at dksX0_readsFigure_0 8 rfl rfl)
theorem dX0_readsFigure_9 : decode cX0_readsFigure 9 = .ok (.iload_n 1, 1) := dk_27 (dk_at dksX0_readsFigure_0 9 rfl rfl)
theorem dX0_readsFigure_10 : decode cX0_readsFigure 10 = .ok (.bipush 9, 2) := dk_16 9 (dk_at dksX0_readsFigure_0 10 rfl rfl)
theorem dX0_readsFigure_12 : decode cX0_readsFigure 12 = .ok (.invokestatic 105, 3) := dk_184 0 105 (dk_at dksX0_readsFigure_0 12 rfl rfl)
theorem dX0_readsFigure_15 : decode cX0_readsFigure 15 = .ok (.ifCond .ne 6, 3) := dk_154 0 6 (dk_at dksX0_readsFigure_0 15 rfl rfl)
theorem dX0_readsFigure_18 : decode cX0_readsFigure 18 = .ok (.bipush (-9), 2) := dk_16 247 (dk_at dksX0_readsFigure_0 18 rfl rfl)
theorem dX0_readsFigure_20 : decode cX0_readsFigure 20 = .ok (.ireturn, 1) := dk_172 (dk_at dksX0_readsFigure_0 20 rfl rfl)
theorem dX0_readsFigure_21 : decode cX0_readsFigure 21 = .ok (.aload_n 0, 1) := dk_42 (dk_at dksX0_readsFigure_0 21 rfl rfl)
theorem dX0_readsFigure_22 : decode cX0_readsFigure 22 = .ok (.dup, 1) := dk_89 (dk_at dksX0_readsFigure_0 22 rfl rfl)
theorem dX0_readsFigure_23 : decode cX0_readsFigure 23 = .ok (.getfield 161, 3) := dk_180 0 161 (dk_at dksX0_readsFigure_1 0 rfl rfl)
theorem dX0_readsFigure_26 : decode cX0_readsFigure 26 = .ok (.iconst 1, 1) := dk_4 (dk_at dksX0_readsFigure_1 3 rfl rfl)
theorem dX0_readsFigure_27 : decode cX0_readsFigure 27 = .ok (.iadd, 1) := dk_96 (dk_at dksX0_readsFigure_1 4 rfl rfl)
theorem dX0_readsFigure_28 : decode cX0_readsFigure 28 = .ok (.putfield 161, 3) := dk_181 0 161 (dk_at dksX0_readsFigure_1 5 rfl rfl)
theorem dX0_readsFigure_31 : decode cX0_readsFigure 31 = .ok (.iload_n 2, 1) := dk_28 (dk_at dksX0_readsFigure_1 8 rfl rfl)
theorem dX0_readsFigure_32 : decode cX0_readsFigure 32 = .ok (.ireturn, 1) := dk_172 (dk_at dksX0_readsFigure_1 9 rfl rfl)
abbrev cX0_readsKey : ByteArray := prog_1_method_22_code
def yX0_readsKey : MethodName := ⟨RX0, "readsKey", "()Z"⟩
def dkwX0_readsKey_8 : List UInt8 := [42, 89, 180, 0, 177, 4, 96, 181, 0, 177, 4, 172]
abbrev dktX0_readsKey_8 : List UInt8 := dkwX0_readsKey_8 ++ []
def dkwX0_readsKey_7 : List UInt8 := [42, 180, 0, 177, 16, 10, 21, 4, 104, 21, 5, 96, 79, 42, 180, 0, 64, 42, 180, 0, 177, 21, 6, 79]
abbrev dktX0_readsKey_7 : List UInt8 := dkwX0_readsKey_7 ++ dktX0_readsKey_8
def dkwX0_readsKey_6 : List UInt8 := [42, 180, 0, 55, 42, 180, 0, 177, 27, 79, 42, 180, 0, 58, 42, 180, 0, 177, 29, 79, 42, 180, 0, 61]
abbrev dktX0_readsKey_6 : List UInt8 := dkwX0_readsKey_6 ++ dktX0_readsKey_7
def dkwX0_readsKey_5 : List UInt8 := [160, 0, 8, 16, 247, 167, 0, 8, 42, 3, 182, 0, 171, 54, 6, 21, 6, 16, 247, 160, 0, 5, 3, 172]
abbrev dktX0_readsKey_5 : List UInt8 := dkwX0_readsKey_5 ++ dktX0_readsKey_6
def dkwX0_readsKey_4 : List UInt8 := [21, 4, 16, 247, 160, 0, 8, 16, 247, 167, 0, 8, 42, 3, 182, 0, 171, 54, 5, 21, 5, 16, 247]
abbrev dktX0_readsKey_4 : List UInt8 := dkwX0_readsKey_4 ++ dktX0_readsKey_5
def dkwX0_readsKey_3 : List UInt8 := [42, 3, 182, 0, 171, 62, 29, 16, 247, 160, 0, 8, 16, 247, 167, 0, 8, 42, 3, 182, 0, 171, 54, 4]
abbrev dktX0_readsKey_3 : List UInt8 := dkwX0_readsKey_3 ++ dktX0_readsKey_4
def dkwX0_readsKey_2 : List UInt8 := [153, 0, 12, 42, 180, 0, 177, 16, 6, 160, 0, 5, 3, 172, 42, 89, 180, 0, 161, 4, 96, 181, 0, 161]
abbrev dktX0_readsKey_2 : List UInt8 := dkwX0_readsKey_2 ++ dktX0_readsKey_3
def dkwX0_readsKey_1 : List UInt8 := [16, 99, 159, 0, 15, 27, 16, 100, 159, 0, 9, 27, 16, 114, 160, 0, 7, 4, 167, 0, 4, 3, 61, 28]
abbrev dktX0_readsKey_1 : List UInt8 := dkwX0_readsKey_1 ++ dktX0_readsKey_2
def dkwX0_readsKey_0 : List UInt8 := [42, 182, 0, 167, 60, 27, 16, 107, 159, 0, 33, 27, 16, 98, 159, 0, 27, 27, 16, 115, 159, 0, 21, 27]
abbrev dktX0_readsKey_0 : List UInt8 := dkwX0_readsKey_0 ++ dktX0_readsKey_1
theorem dksX0_readsKey_0 : cX0_readsKey.data.toList.drop 0 = dktX0_readsKey_0 := by decide +kernel
theorem dksX0_readsKey_1 : cX0_readsKey.data.toList.drop 24 = dktX0_readsKey_1 := dk_seg dksX0_readsKey_0 24 rfl rfl
theorem dksX0_readsKey_2 : cX0_readsKey.data.toList.drop 48 = dktX0_readsKey_2 := dk_seg dksX0_readsKey_1 24 rfl rfl
theorem dksX0_readsKey_3 : cX0_readsKey.data.toList.drop 72 = dktX0_readsKey_3 := dk_seg dksX0_readsKey_2 24 rfl rfl
theorem dksX0_readsKey_4 : cX0_readsKey.data.toList.drop 96 = dktX0_readsKey_4 := dk_seg dksX0_readsKey_3 24 rfl rfl
theorem dksX0_readsKey_5 : cX0_readsKey.data.toList.drop 119 = dktX0_readsKey_5 := dk_seg dksX0_readsKey_4 23 rfl rfl
theorem dksX0_readsKey_6 : cX0_readsKey.data.toList.drop 143 = dktX0_readsKey_6 := dk_seg dksX0_readsKey_5 24 rfl rfl
theorem dksX0_readsKey_7 : cX0_readsKey.data.toList.drop 167 = dktX0_readsKey_7 := dk_seg dksX0_readsKey_6 24 rfl rfl
theorem dksX0_readsKey_8 : cX0_readsKey.data.toList.drop 191 = dktX0_readsKey_8 := dk_seg dksX0_readsKey_7 24 rfl rfl
theorem dX0_readsKey_0 : decode cX0_readsKey 0 = .ok (.aload_n 0, 1) := dk_42 (dk_at dksX0_readsKey_0 0 rfl rfl)
theorem dX0_readsKey_1 : decode cX0_readsKey 1 = .ok (.invokevirtual 167, 3) := dk_182 0 167 (dk_at dksX0_readsKey_0 1 rfl rfl)
theorem dX0_readsKey_4 : decode cX0_readsKey 4 = .ok (.istore_n 1, 1) := dk_60 (dk_at dksX0_readsKey_0 4 rfl rfl)
theorem dX0_readsKey_5 : decode cX0_readsKey 5 = .ok (.iload_n 1, 1) := dk_27 (dk_at dksX0_readsKey_0 5 rfl rfl)
theorem dX0_readsKey_6 : decode cX0_readsKey 6 = .ok (.bipush 107, 2) := dk_16 107 (dk_at dksX0_readsKey_0 6 rfl rfl)
theorem dX0_readsKey_8 : decode cX0_readsKey 8 = .ok (.if_icmp .eq 33, 3) := dk_159 0 33 (dk_at dksX0_readsKey_0 8 rfl rfl)
theorem dX0_readsKey_11 : decode cX0_readsKey 11 = .ok (.iload_n 1, 1) := dk_27 (dk_at dksX0_readsKey_0 11 rfl rfl)
theorem dX0_readsKey_12 : decode cX0_readsKey 12 = .ok (.bipush 98, 2) := dk_16 98 (dk_at dksX0_readsKey_0 12 rfl rfl)
theorem dX0_readsKey_14 : decode cX0_readsKey 14 = .ok (.if_icmp .eq 27, 3) := dk_159 0 27 (dk_at dksX0_readsKey_0 14 rfl rfl)
theorem dX0_readsKey_17 : decode cX0_readsKey 17 = .ok (.iload_n 1, 1) := dk_27 (dk_at dksX0_readsKey_0 17 rfl rfl)
theorem dX0_readsKey_18 : decode cX0_readsKey 18 = .ok (.bipush 115, 2) := dk_16 115 (dk_at dksX0_readsKey_0 18 rfl rfl)
theorem dX0_readsKey_20 : decode cX0_readsKey 20 = .ok (.if_icmp .eq 21, 3) := dk_159 0 21 (dk_at dksX0_readsKey_0 20 rfl rfl)
theorem dX0_readsKey_23 : decode cX0_readsKey 23 = .ok (.iload_n 1, 1) := dk_27 (dk_at dksX0_readsKey_0 23 rfl rfl)
theorem dX0_readsKey_24 : decode cX0_readsKey 24 = .ok (.bipush 99, 2) := dk_16 99 (dk_at dksX0_readsKey_1 0 rfl rfl)
theorem dX0_readsKey_26 : decode cX0_readsKey 26 = .ok (.if_icmp .eq 15, 3) := dk_159 0 15 (dk_at dksX0_readsKey_1 2 rfl rfl)
theorem dX0_readsKey_29 : decode cX0_readsKey 29 = .ok (.iload_n 1, 1) := dk_27 (dk_at dksX0_readsKey_1 5 rfl rfl)
theorem dX0_readsKey_30 : decode cX0_readsKey 30 = .ok (.bipush 100, 2) := dk_16 100 (dk_at dksX0_readsKey_1 6 rfl rfl)
theorem dX0_readsKey_32 : decode cX0_readsKey 32 = .ok (.if_icmp .eq 9, 3) := dk_159 0 9 (dk_at dksX0_readsKey_1 8 rfl rfl)
theorem dX0_readsKey_35 : decode cX0_readsKey 35 = .ok (.iload_n 1, 1) := dk_27 (dk_at dksX0_readsKey_1 11 rfl rfl)
theorem dX0_readsKey_36 : decode cX0_readsKey 36 = .ok (.bipush 114, 2) := dk_16 114 (dk_at dksX0_readsKey_1 12 rfl rfl)
theorem dX0_readsKey_38 : decode cX0_readsKey 38 = .ok (.if_icmp .ne 7, 3) := dk_160 0 7 (dk_at dksX0_readsKey_1 14 rfl rfl)
theorem dX0_readsKey_41 : decode cX0_readsKey 41 = .ok (.iconst 1, 1) := dk_4 (dk_at dksX0_readsKey_1 17 rfl rfl)
theorem dX0_readsKey_42 : decode cX0_readsKey 42 = .ok (.goto 4, 3) := dk_167 0 4 (dk_at dksX0_readsKey_1 18 rfl rfl)
theorem dX0_readsKey_45 : decode cX0_readsKey 45 = .ok (.iconst 0, 1) := dk_3 (dk_at dksX0_readsKey_1 21 rfl rfl)
theorem dX0_readsKey_46 : decode cX0_readsKey 46 = .ok (.istore_n 2, 1) := dk_61 (dk_at dksX0_readsKey_1 22 rfl rfl)
theorem dX0_readsKey_47 : decode cX0_readsKey 47 = .ok (.iload_n 2, 1) := dk_28 (dk_at dksX0_readsKey_1 23 rfl rfl)
theorem dX0_readsKey_48 : decode cX0_readsKey 48 = .ok (.ifCond .eq 12, 3) := dk_153 0 12 (dk_at dksX0_readsKey_2 0 rfl rfl)
theorem dX0_readsKey_51 : decode cX0_readsKey 51 = .ok (.aload_n 0, 1) := dk_42 (dk_at dksX0_readsKey_2 3 rfl rfl)
theorem dX0_readsKey_52 : decode cX0_readsKey 52 = .ok (.getfield 177, 3) := dk_180 0 177 (dk_at dksX0_readsKey_2 4 rfl rfl)
theorem dX0_readsKey_55 : decode cX0_readsKey 55 = .ok (.bipush 6, 2) := dk_16 6 (dk_at dksX0_readsKey_2 7 rfl rfl)
theorem dX0_readsKey_57 : decode cX0_readsKey 57 = .ok (.if_icmp .ne 5, 3) := dk_160 0 5 (dk_at dksX0_readsKey_2 9 rfl rfl)
theorem dX0_readsKey_60 : decode cX0_readsKey 60 = .ok (.iconst 0, 1) := dk_3 (dk_at dksX0_readsKey_2 12 rfl rfl)
theorem dX0_readsKey_61 : decode cX0_readsKey 61 = .ok (.ireturn, 1) := dk_172 (dk_at dksX0_readsKey_2 13 rfl rfl)
theorem dX0_readsKey_62 : decode cX0_readsKey 62 = .ok (.aload_n 0, 1) := dk_42 (dk_at dksX0_readsKey_2 14 rfl rfl)
theorem dX0_readsKey_63 : decode cX0_readsKey 63 = .ok (.dup, 1) := dk_89 (dk_at dksX0_readsKey_2 15 rfl rfl)
theorem dX0_readsKey_64 : decode cX0_readsKey 64 = .ok (.getfield 161, 3) := dk_180 0 161 (dk_at dksX0_readsKey_2 16 rfl rfl)
theorem dX0_readsKey_67 : decode cX0_readsKey 67 = .ok (.iconst 1, 1) := dk_4 (dk_at dksX0_readsKey_2 19 rfl rfl)
theorem dX0_readsKey_68 : decode cX0_readsKey 68 = .ok (.iadd, 1) := dk_96 (dk_at dksX0_readsKey_2 20 rfl rfl)
theorem dX0_readsKey_69 : decode cX0_readsKey 69 = .ok (.putfield 161, 3) := dk_181 0 161 (dk_at dksX0_readsKey_2 21 rfl rfl)
theorem dX0_readsKey_72 : decode cX0_readsKey 72 = .ok (.aload_n 0, 1) := dk_42 (dk_at dksX0_readsKey_3 0 rfl rfl)
theorem dX0_readsKey_73 : decode cX0_readsKey 73 = .ok (.iconst 0, 1) := dk_3 (dk_at dksX0_readsKey_3 1 rfl rfl)
theorem dX0_readsKey_74 : decode cX0_readsKey 74 = .ok (.invokevirtual 171, 3) := dk_182 0 171 (dk_at dksX0_readsKey_3 2 rfl rfl)
theorem dX0_readsKey_77 : decode cX0_readsKey 77 = .ok (.istore_n 3, 1) := dk_62 (dk_at dksX0_readsKey_3 5 rfl rfl)
theorem dX0_readsKey_78 : decode cX0_readsKey 78 = .ok (.iload_n 3, 1) := dk_29 (dk_at dksX0_readsKey_3 6 rfl rfl)
theorem dX0_readsKey_79 : decode cX0_readsKey 79 = .ok (.bipush (-9), 2) := dk_16 247 (dk_at dksX0_readsKey_3 7 rfl rfl)
theorem dX0_readsKey_81 : decode cX0_readsKey 81 = .ok (.if_icmp .ne 8, 3) := dk_160 0 8 (dk_at dksX0_readsKey_3 9 rfl rfl)
theorem dX0_readsKey_84 : decode cX0_readsKey 84 = .ok (.bipush (-9), 2) := dk_16 247 (dk_at dksX0_readsKey_3 12 rfl rfl)
theorem dX0_readsKey_86 : decode cX0_readsKey 86 = .ok (.goto 8, 3) := dk_167 0 8 (dk_at dksX0_readsKey_3 14 rfl rfl)
theorem dX0_readsKey_89 : decode cX0_readsKey 89 = .ok (.aload_n 0, 1) := dk_42 (dk_at dksX0_readsKey_3 17 rfl rfl)
theorem dX0_readsKey_90 : decode cX0_readsKey 90 = .ok (.iconst 0, 1) := dk_3 (dk_at dksX0_readsKey_3 18 rfl rfl)
theorem dX0_readsKey_91 : decode cX0_readsKey 91 = .ok (.invokevirtual 171, 3) := dk_182 0 171 (dk_at dksX0_readsKey_3 19 rfl rfl)
theorem dX0_readsKey_94 : decode cX0_readsKey 94 = .ok (.istore 4, 2) := dk_54 4 (dk_at dksX0_readsKey_3 22 rfl rfl)
theorem dX0_readsKey_96 : decode cX0_readsKey 96 = .ok (.iload 4, 2) := dk_21 4 (dk_at dksX0_readsKey_4 0 rfl rfl)
theorem dX0_readsKey_98 : decode cX0_readsKey 98 = .ok (.bipush (-9), 2) := dk_16 247 (dk_at dksX0_readsKey_4 2 rfl rfl)
theorem dX0_readsKey_100 : decode cX0_readsKey 100 = .ok (.if_icmp .ne 8, 3) := dk_160 0 8 (dk_at dksX0_readsKey_4 4 rfl rfl)
theorem dX0_readsKey_103 : decode cX0_readsKey 103 = .ok (.bipush (-9), 2) := dk_16 247 (dk_at dksX0_readsKey_4 7 rfl rfl)
theorem dX0_readsKey_105 : decode cX0_readsKey 105 = .ok (.goto 8, 3) := dk_167 0 8 (dk_at dksX0_readsKey_4 9 rfl rfl)
theorem dX0_readsKey_108 : decode cX0_readsKey 108 = .ok (.aload_n 0, 1) := dk_42 (dk_at dksX0_readsKey_4 12 rfl rfl)
theorem dX0_readsKey_109 : decode cX0_readsKey 109 = .ok (.iconst 0, 1) := dk_3 (dk_at dksX0_readsKey_4 13 rfl rfl)
theorem dX0_readsKey_110 : decode cX0_readsKey 110 = .ok (.invokevirtual 171, 3) := dk_182 0 171 (dk_at dksX0_readsKey_4 14 rfl rfl)
theorem dX0_readsKey_113 : decode cX0_readsKey 113 = .ok (.istore 5, 2) := dk_54 5 (dk_at dksX0_readsKey_4 17 rfl rfl)
theorem dX0_readsKey_115 : decode cX0_readsKey 115 = .ok (.iload 5, 2) := dk_21 5 (dk_at dksX0_readsKey_4 19 rfl rfl)
theorem dX0_readsKey_117 : decode cX0_readsKey 117 = .ok (.bipush (-9), 2) := dk_16 247 (dk_at dksX0_readsKey_4 21 rfl rfl)
theorem dX0_readsKey_119 : decode cX0_readsKey 119 = .ok (.if_icmp .ne 8, 3) := dk_160 0 8 (dk_at dksX0_readsKey_5 0 rfl rfl)
theorem dX0_readsKey_122 : decode cX0_readsKey 122 = .ok (.bipush (-9), 2) := dk_16 247 (dk_at dksX0_readsKey_5 3 rfl rfl)
theorem dX0_readsKey_124 : decode cX0_readsKey 124 = .ok (.goto 8, 3) := dk_167 0 8 (dk_at dksX0_readsKey_5 5 rfl rfl)
theorem dX0_readsKey_127 : decode cX0_readsKey 127 = .ok (.aload_n 0, 1) := dk_42 (dk_at dksX0_readsKey_5 8 rfl rfl)
theorem dX0_readsKey_128 : decode cX0_readsKey 128 = .ok (.iconst 0, 1) := dk_3 (dk_at dksX0_readsKey_5 9 rfl rfl)
theorem dX0_readsKey_129 : decode cX0_readsKey 129 = .ok (.invokevirtual 171, 3) := dk_182 0 171 (dk_at dksX0_readsKey_5 10 rfl rfl)
theorem dX0_readsKey_132 : decode cX0_readsKey 132 = .ok (.istore 6, 2) := dk_54 6 (dk_at dksX0_readsKey_5 13 rfl rfl)
theorem dX0_readsKey_134 : decode cX0_readsKey 134 = .ok (.iload 6, 2) := dk_21 6 (dk_at dksX0_readsKey_5 15 rfl rfl)
theorem dX0_readsKey_136 : decode cX0_readsKey 136 = .ok (.bipush (-9), 2) := dk_16 247 (dk_at dksX0_readsKey_5 17 rfl rfl)
theorem dX0_readsKey_138 : decode cX0_readsKey 138 = .ok (.if_icmp .ne 5, 3) := dk_160 0 5 (dk_at dksX0_readsKey_5 19 rfl rfl)
theorem dX0_readsKey_141 : decode cX0_readsKey 141 = .ok (.iconst 0, 1) := dk_3 (dk_at dksX0_readsKey_5 22 rfl rfl)
theorem dX0_readsKey_142 : decode cX0_readsKey 142 = .ok (.ireturn, 1) := dk_172 (dk_at dksX0_readsKey_5 23 rfl rfl)
theorem dX0_readsKey_143 : decode cX0_readsKey 143 = .ok (.aload_n 0, 1) := dk_42 (dk_at dksX0_readsKey_6 0 rfl rfl)
theorem dX0_readsKey_144 : decode cX0_readsKey 144 = .ok (.getfield 55, 3) := dk_180 0 55 (dk_at dksX0_readsKey_6 1 rfl rfl)
theorem dX0_readsKey_147 : decode cX0_readsKey 147 = .ok (.aload_n 0, 1) := dk_42 (dk_at dksX0_readsKey_6 4 rfl rfl)
theorem dX0_readsKey_148 : decode cX0_readsKey 148 = .ok (.getfield 177, 3) := dk_180 0 177 (dk_at dksX0_readsKey_6 5 rfl rfl)
theorem dX0_readsKey_151 : decode cX0_readsKey 151 = .ok (.iload_n 1, 1) := dk_27 (dk_at dksX0_readsKey_6 8 rfl rfl)
theorem dX0_readsKey_152 : decode cX0_readsKey 152 = .ok (.iastore, 1) := dk_79 (dk_at dksX0_readsKey_6 9 rfl rfl)
theorem dX0_readsKey_153 : decode cX0_readsKey 153 = .ok (.aload_n 0, 1) := dk_42 (dk_at dksX0_readsKey_6 10 rfl rfl)
theorem dX0_readsKey_154 : decode cX0_readsKey 154 = .ok (.getfield 58, 3) := dk_180 0 58 (dk_at dksX0_readsKey_6 11 rfl rfl)
theorem dX0_readsKey_157 : decode cX0_readsKey 157 = .ok (.aload_n 0, 1) := dk_42 (dk_at dksX0_readsKey_6 14 rfl rfl)
theorem dX0_readsKey_158 : decode cX0_readsKey 158 = .ok (.getfield 177, 3) := dk_180 0 177 (dk_at dksX0_readsKey_6 15 rfl rfl)
theorem dX0_readsKey_161 : decode cX0_readsKey 161 = .ok (.iload_n 3, 1) := dk_29 (dk_at dksX0_readsKey_6 18 rfl rfl)
theorem dX0_readsKey_162 : decode cX0_readsKey 162 = .ok (.iastore, 1) := dk_79 (dk_at dksX0_readsKey_6 19 rfl rfl)
theorem dX0_readsKey_163 : decode cX0_readsKey 163 = .ok (.aload_n 0, 1) := dk_42 (dk_at dksX0_readsKey_6 20 rfl rfl)
theorem dX0_readsKey_164 : decode cX0_readsKey 164 = .ok (.getfield 61, 3) := dk_180 0 61 (dk_at dksX0_readsKey_6 21 rfl rfl)
theorem dX0_readsKey_167 : decode cX0_readsKey 167 = .ok (.aload_n 0, 1) := dk_42 (dk_at dksX0_readsKey_7 0 rfl rfl)
theorem dX0_readsKey_168 : decode cX0_readsKey 168 = .ok (.getfield 177, 3) := dk_180 0 177 (dk_at dksX0_readsKey_7 1 rfl rfl)
theorem dX0_readsKey_171 : decode cX0_readsKey 171 = .ok (.bipush 10, 2) := dk_16 10 (dk_at dksX0_readsKey_7 4 rfl rfl)
theorem dX0_readsKey_173 : decode cX0_readsKey 173 = .ok (.iload 4, 2) := dk_21 4 (dk_at dksX0_readsKey_7 6 rfl rfl)
theorem dX0_readsKey_175 : decode cX0_readsKey 175 = .ok (.imul, 1) := dk_104 (dk_at dksX0_readsKey_7 8 rfl rfl)
theorem dX0_readsKey_176 : decode cX0_readsKey 176 = .ok (.iload 5, 2) := dk_21 5 (dk_at dksX0_readsKey_7 9 rfl rfl)
theorem dX0_readsKey_178 : decode cX0_readsKey 178 = .ok (.iadd, 1) := dk_96 (dk_at dksX0_readsKey_7 11 rfl rfl)
theorem dX0_readsKey_179 : decode cX0_readsKey 179 = .ok (.iastore, 1) := dk_79 (dk_at dksX0_readsKey_7 12 rfl rfl)
theorem dX0_readsKey_180 : decode cX0_readsKey 180 = .ok (.aload_n 0, 1) := dk_42 (dk_at dksX0_readsKey_7 13 rfl rfl)
theorem dX0_readsKey_181 : decode cX0_readsKey 181 = .ok (.getfield 64, 3) := dk_180 0 64 (dk_at dksX0_readsKey_7 14 rfl rfl)
theorem dX0_readsKey_184 : decode cX0_readsKey 184 = .ok (.aload_n 0, 1) := dk_42 (dk_at dksX0_readsKey_7 17 rfl rfl)
theorem dX0_readsKey_185 : decode cX0_readsKey 185 = .ok (.getfield 177, 3) := dk_180 0 177 (dk_at dksX0_readsKey_7 18 rfl rfl)
theorem dX0_readsKey_188 : decode cX0_readsKey 188 = .ok (.iload 6, 2) := dk_21 6 (dk_at dksX0_readsKey_7 21 rfl rfl)
theorem dX0_readsKey_190 : decode cX0_readsKey 190 = .ok (.iastore, 1) := dk_79 (dk_at dksX0_readsKey_7 23 rfl rfl)
theorem dX0_readsKey_191 : decode cX0_readsKey 191 = .ok (.aload_n 0, 1) := dk_42 (dk_at dksX0_readsKey_8 0 rfl rfl)
theorem dX0_readsKey_192 : decode cX0_readsKey 192 = .ok (.dup, 1) := dk_89 (dk_at dksX0_readsKey_8 1 rfl rfl)
theorem dX0_readsKey_193 : decode cX0_readsKey 193 = .ok (.getfield 177, 3) := dk_180 0 177 (dk_at dksX0_readsKey_8 2 rfl rfl)
theorem dX0_readsKey_196 : decode cX0_readsKey 196 = .ok (.iconst 1, 1) := dk_4 (dk_at dksX0_readsKey_8 5 rfl rfl)
theorem dX0_readsKey_197 : decode cX0_readsKey 197 = .ok (.iadd, 1) := dk_96 (dk_at dksX0_readsKey_8 6 rfl rfl)
theorem dX0_readsKey_198 : decode cX0_readsKey 198 = .ok (.putfield 177, 3) := dk_181 0 177 (dk_at dksX0_readsKey_8 7 rfl rfl)
theorem dX0_readsKey_201 : decode cX0_readsKey 201 = .ok (.iconst 1, 1) := dk_4 (dk_at dksX0_readsKey_8 10 rfl rfl)
theorem dX0_readsKey_202 : decode cX0_readsKey 202 = .ok (.ireturn, 1) := dk_172 (dk_at dksX0_readsKey_8 11 rfl rfl)
abbrev cX0_piano : ByteArray := prog_1_method_25_code
def yX0_piano : MethodName := ⟨RX0, "piano", "(I)I"⟩
def dkwX0_piano_7 : List UInt8 := [132, 2, 1, 167, 255, 241, 42, 180, 0, 191, 172]
abbrev dktX0_piano_7 : List UInt8 := dkwX0_piano_7 ++ []
def dkwX0_piano_6 : List UInt8 := [167, 255, 202, 42, 3, 181, 0, 200, 3, 61, 28, 6, 162, 0, 16, 42, 180, 0, 72, 28, 1, 83]
abbrev dktX0_piano_6 : List UInt8 := dkwX0_piano_6 ++ dktX0_piano_7
def dkwX0_piano_5 : List UInt8 := [184, 0, 196, 83, 42, 180, 0, 51, 180, 0, 194, 28, 42, 180, 0, 61, 28, 46, 79, 132, 2, 1]
abbrev dktX0_piano_5 : List UInt8 := dkwX0_piano_5 ++ dktX0_piano_6
def dkwX0_piano_4 : List UInt8 := [180, 0, 44, 28, 42, 180, 0, 55, 28, 46, 28, 42, 180, 0, 58, 28, 46, 42, 180, 0, 64, 28, 46]
abbrev dktX0_piano_4 : List UInt8 := dkwX0_piano_4 ++ dktX0_piano_5
def dkwX0_piano_3 : List UInt8 := [180, 0, 194, 28, 3, 79, 132, 2, 1, 167, 255, 237, 3, 61, 28, 42, 180, 0, 191, 162, 0, 52, 42]
abbrev dktX0_piano_3 : List UInt8 := dkwX0_piano_3 ++ dktX0_piano_4
def dkwX0_piano_2 : List UInt8 := [181, 0, 191, 42, 42, 180, 0, 174, 181, 0, 102, 3, 61, 28, 16, 9, 162, 0, 19, 42, 180, 0, 51]
abbrev dktX0_piano_2 : List UInt8 := dkwX0_piano_2 ++ dktX0_piano_3
def dkwX0_piano_1 : List UInt8 := [42, 42, 180, 0, 38, 27, 50, 182, 0, 187, 16, 247, 159, 0, 6, 16, 252, 172, 42, 42, 180, 0, 177]
abbrev dktX0_piano_1 : List UInt8 := dkwX0_piano_1 ++ dktX0_piano_2
def dkwX0_piano_0 : List UInt8 := [27, 184, 0, 140, 154, 0, 5, 2, 172, 42, 180, 0, 38, 27, 50, 199, 0, 9, 42, 4, 182, 0, 115, 172]
abbrev dktX0_piano_0 : List UInt8 := dkwX0_piano_0 ++ dktX0_piano_1
theorem dksX0_piano_0 : cX0_piano.data.toList.drop 0 = dktX0_piano_0 := by decide +kernel
theorem dksX0_piano_1 : cX0_piano.data.toList.drop 24 = dktX0_piano_1 := dk_seg dksX0_piano_0 24 rfl rfl
theorem dksX0_piano_2 : cX0_piano.data.toList.drop 47 = dktX0_piano_2 := dk_seg dksX0_piano_1 23 rfl rfl
theorem dksX0_piano_3 : cX0_piano.data.toList.drop 70 = dktX0_piano_3 := dk_seg dksX0_piano_2 23 rfl rfl
theorem dksX0_piano_4 : cX0_piano.data.toList.drop 93 = dktX0_piano_4 := dk_seg dksX0_piano_3 23 rfl rfl
theorem dksX0_piano_5 : cX0_piano.data.toList.drop 116 = dktX0_piano_5 := dk_seg dksX0_piano_4 23 rfl rfl
theorem dksX0_piano_6 : cX0_piano.data.toList.drop 138 = dktX0_piano_6 := dk_seg dksX0_piano_5 22 rfl rfl
theorem dksX0_piano_7 : cX0_piano.data.toList.drop 160 = dktX0_piano_7 := dk_seg dksX0_piano_6 22 rfl rfl
theorem dX0_piano_0 : decode cX0_piano 0 = .ok (.iload_n 1, 1) := dk_27 (dk_at dksX0_piano_0 0 rfl rfl)
theorem dX0_piano_1 : decode cX0_piano 1 = .ok (.invokestatic 140, 3) := dk_184 0 140 (dk_at dksX0_piano_0 1 rfl rfl)
theorem dX0_piano_4 : decode cX0_piano 4 = .ok (.ifCond .ne 5, 3) := dk_154 0 5 (dk_at dksX0_piano_0 4 rfl rfl)
theorem dX0_piano_7 : decode cX0_piano 7 = .ok (.iconst (-1), 1) := dk_2 (dk_at dksX0_piano_0 7 rfl rfl)
theorem dX0_piano_8 : decode cX0_piano 8 = .ok (.ireturn, 1) := dk_172 (dk_at dksX0_piano_0 8 rfl rfl)
theorem dX0_piano_9 : decode cX0_piano 9 = .ok (.aload_n 0, 1) := dk_42 (dk_at dksX0_piano_0 9 rfl rfl)
theorem dX0_piano_10 : decode cX0_piano 10 = .ok (.getfield 38, 3) := dk_180 0 38 (dk_at dksX0_piano_0 10 rfl rfl)
theorem dX0_piano_13 : decode cX0_piano 13 = .ok (.iload_n 1, 1) := dk_27 (dk_at dksX0_piano_0 13 rfl rfl)
theorem dX0_piano_14 : decode cX0_piano 14 = .ok (.aaload, 1) := dk_50 (dk_at dksX0_piano_0 14 rfl rfl)
theorem dX0_piano_15 : decode cX0_piano 15 = .ok (.ifnonnull 9, 3) := dk_199 0 9 (dk_at dksX0_piano_0 15 rfl rfl)
theorem dX0_piano_18 : decode cX0_piano 18 = .ok (.aload_n 0, 1) := dk_42 (dk_at dksX0_piano_0 18 rfl rfl)
theorem dX0_piano_19 : decode cX0_piano 19 = .ok (.iconst 1, 1) := dk_4 (dk_at dksX0_piano_0 19 rfl rfl)
theorem dX0_piano_20 : decode cX0_piano 20 = .ok (.invokevirtual 115, 3) := dk_182 0 115 (dk_at dksX0_piano_0 20 rfl rfl)
theorem dX0_piano_23 : decode cX0_piano 23 = .ok (.ireturn, 1) := dk_172 (dk_at dksX0_piano_0 23 rfl rfl)
theorem dX0_piano_24 : decode cX0_piano 24 = .ok (.aload_n 0, 1) := dk_42 (dk_at dksX0_piano_1 0 rfl rfl)
theorem dX0_piano_25 : decode cX0_piano 25 = .ok (.aload_n 0, 1) := dk_42 (dk_at dksX0_piano_1 1 rfl rfl)
theorem dX0_piano_26 : decode cX0_piano 26 = .ok (.getfield 38, 3) := dk_180 0 38 (dk_at dksX0_piano_1 2 rfl rfl)
theorem dX0_piano_29 : decode cX0_piano 29 = .ok (.iload_n 1, 1) := dk_27 (dk_at dksX0_piano_1 5 rfl rfl)
theorem dX0_piano_30 : decode cX0_piano 30 = .ok (.aaload, 1) := dk_50 (dk_at dksX0_piano_1 6 rfl rfl)
theorem dX0_piano_31 : decode cX0_piano 31 = .ok (.invokevirtual 187, 3) := dk_182 0 187 (dk_at dksX0_piano_1 7 rfl rfl)
theorem dX0_piano_34 : decode cX0_piano 34 = .ok (.bipush (-9), 2) := dk_16 247 (dk_at dksX0_piano_1 10 rfl rfl)
theorem dX0_piano_36 : decode cX0_piano 36 = .ok (.if_icmp .eq 6, 3) := dk_159 0 6 (dk_at dksX0_piano_1 12 rfl rfl)
theorem dX0_piano_39 : decode cX0_piano 39 = .ok (.bipush (-4), 2) := dk_16 252 (dk_at dksX0_piano_1 15 rfl rfl)
theorem dX0_piano_41 : decode cX0_piano 41 = .ok (.ireturn, 1) := dk_172 (dk_at dksX0_piano_1 17 rfl rfl)
theorem dX0_piano_42 : decode cX0_piano 42 = .ok (.aload_n 0, 1) := dk_42 (dk_at dksX0_piano_1 18 rfl rfl)
theorem dX0_piano_43 : decode cX0_piano 43 = .ok (.aload_n 0, 1) := dk_42 (dk_at dksX0_piano_1 19 rfl rfl)
theorem dX0_piano_44 : decode cX0_piano 44 = .ok (.getfield 177, 3) := dk_180 0 177 (dk_at dksX0_piano_1 20 rfl rfl)
theorem dX0_piano_47 : decode cX0_piano 47 = .ok (.putfield 191, 3) := dk_181 0 191 (dk_at dksX0_piano_2 0 rfl rfl)
theorem dX0_piano_50 : decode cX0_piano 50 = .ok (.aload_n 0, 1) := dk_42 (dk_at dksX0_piano_2 3 rfl rfl)
theorem dX0_piano_51 : decode cX0_piano 51 = .ok (.aload_n 0, 1) := dk_42 (dk_at dksX0_piano_2 4 rfl rfl)
theorem dX0_piano_52 : decode cX0_piano 52 = .ok (.getfield 174, 3) := dk_180 0 174 (dk_at dksX0_piano_2 5 rfl rfl)
theorem dX0_piano_55 : decode cX0_piano 55 = .ok (.putfield 102, 3) := dk_181 0 102 (dk_at dksX0_piano_2 8 rfl rfl)
theorem dX0_piano_58 : decode cX0_piano 58 = .ok (.iconst 0, 1) := dk_3 (dk_at dksX0_piano_2 11 rfl rfl)
theorem dX0_piano_59 : decode cX0_piano 59 = .ok (.istore_n 2, 1) := dk_61 (dk_at dksX0_piano_2 12 rfl rfl)
theorem dX0_piano_60 : decode cX0_piano 60 = .ok (.iload_n 2, 1) := dk_28 (dk_at dksX0_piano_2 13 rfl rfl)
theorem dX0_piano_61 : decode cX0_piano 61 = .ok (.bipush 9, 2) := dk_16 9 (dk_at dksX0_piano_2 14 rfl rfl)
theorem dX0_piano_63 : decode cX0_piano 63 = .ok (.if_icmp .ge 19, 3) := dk_162 0 19 (dk_at dksX0_piano_2 16 rfl rfl)
theorem dX0_piano_66 : decode cX0_piano 66 = .ok (.aload_n 0, 1) := dk_42 (dk_at dksX0_piano_2 19 rfl rfl)
theorem dX0_piano_67 : decode cX0_piano 67 = .ok (.getfield 51, 3) := dk_180 0 51 (dk_at dksX0_piano_2 20 rfl rfl)
theorem dX0_piano_70 : decode cX0_piano 70 = .ok (.getfield 194, 3) := dk_180 0 194 (dk_at dksX0_piano_3 0 rfl rfl)
theorem dX0_piano_73 : decode cX0_piano 73 = .ok (.iload_n 2, 1) := dk_28 (dk_at dksX0_piano_3 3 rfl rfl)
theorem dX0_piano_74 : decode cX0_piano 74 = .ok (.iconst 0, 1) := dk_3 (dk_at dksX0_piano_3 4 rfl rfl)
theorem dX0_piano_75 : decode cX0_piano 75 = .ok (.iastore, 1) := dk_79 (dk_at dksX0_piano_3 5 rfl rfl)
theorem dX0_piano_76 : decode cX0_piano 76 = .ok (.iinc 2 1, 3) := dk_132 2 1 (dk_at dksX0_piano_3 6 rfl rfl)
theorem dX0_piano_79 : decode cX0_piano 79 = .ok (.goto (-19), 3) := dk_167 255 237 (dk_at dksX0_piano_3 9 rfl rfl)
theorem dX0_piano_82 : decode cX0_piano 82 = .ok (.iconst 0, 1) := dk_3 (dk_at dksX0_piano_3 12 rfl rfl)
theorem dX0_piano_83 : decode cX0_piano 83 = .ok (.istore_n 2, 1) := dk_61 (dk_at dksX0_piano_3 13 rfl rfl)
theorem dX0_piano_84 : decode cX0_piano 84 = .ok (.iload_n 2, 1) := dk_28 (dk_at dksX0_piano_3 14 rfl rfl)
theorem dX0_piano_85 : decode cX0_piano 85 = .ok (.aload_n 0, 1) := dk_42 (dk_at dksX0_piano_3 15 rfl rfl)
theorem dX0_piano_86 : decode cX0_piano 86 = .ok (.getfield 191, 3) := dk_180 0 191 (dk_at dksX0_piano_3 16 rfl rfl)
theorem dX0_piano_89 : decode cX0_piano 89 = .ok (.if_icmp .ge 52, 3) := dk_162 0 52 (dk_at dksX0_piano_3 19 rfl rfl)
theorem dX0_piano_92 : decode cX0_piano 92 = .ok (.aload_n 0, 1) := dk_42 (dk_at dksX0_piano_3 22 rfl rfl)
theorem dX0_piano_93 : decode cX0_piano 93 = .ok (.getfield 44, 3) := dk_180 0 44 (dk_at dksX0_piano_4 0 rfl rfl)
theorem dX0_piano_96 : decode cX0_piano 96 = .ok (.iload_n 2, 1) := dk_28 (dk_at dksX0_piano_4 3 rfl rfl)
theorem dX0_piano_97 : decode cX0_piano 97 = .ok (.aload_n 0, 1) := dk_42 (dk_at dksX0_piano_4 4 rfl rfl)
theorem dX0_piano_98 : decode cX0_piano 98 = .ok (.getfield 55, 3) := dk_180 0 55 (dk_at dksX0_piano_4 5 rfl rfl)
theorem dX0_piano_101 : decode cX0_piano 101 = .ok (.iload_n 2, 1) := dk_28 (dk_at dksX0_piano_4 8 rfl rfl)
theorem dX0_piano_102 : decode cX0_piano 102 = .ok (.iaload, 1) := dk_46 (dk_at dksX0_piano_4 9 rfl rfl)
theorem dX0_piano_103 : decode cX0_piano 103 = .ok (.iload_n 2, 1) := dk_28 (dk_at dksX0_piano_4 10 rfl rfl)
theorem dX0_piano_104 : decode cX0_piano 104 = .ok (.aload_n 0, 1) := dk_42 (dk_at dksX0_piano_4 11 rfl rfl)
theorem dX0_piano_105 : decode cX0_piano 105 = .ok (.getfield 58, 3) := dk_180 0 58 (dk_at dksX0_piano_4 12 rfl rfl)
theorem dX0_piano_108 : decode cX0_piano 108 = .ok (.iload_n 2, 1) := dk_28 (dk_at dksX0_piano_4 15 rfl rfl)
theorem dX0_piano_109 : decode cX0_piano 109 = .ok (.iaload, 1) := dk_46 (dk_at dksX0_piano_4 16 rfl rfl)
theorem dX0_piano_110 : decode cX0_piano 110 = .ok (.aload_n 0, 1) := dk_42 (dk_at dksX0_piano_4 17 rfl rfl)
theorem dX0_piano_111 : decode cX0_piano 111 = .ok (.getfield 64, 3) := dk_180 0 64 (dk_at dksX0_piano_4 18 rfl rfl)
theorem dX0_piano_114 : decode cX0_piano 114 = .ok (.iload_n 2, 1) := dk_28 (dk_at dksX0_piano_4 21 rfl rfl)
theorem dX0_piano_115 : decode cX0_piano 115 = .ok (.iaload, 1) := dk_46 (dk_at dksX0_piano_4 22 rfl rfl)
theorem dX0_piano_116 : decode cX0_piano 116 = .ok (.invokestatic 196, 3) := dk_184 0 196 (dk_at dksX0_piano_5 0 rfl rfl)
theorem dX0_piano_119 : decode cX0_piano 119 = .ok (.aastore, 1) := dk_83 (dk_at dksX0_piano_5 3 rfl rfl)
theorem dX0_piano_120 : decode cX0_piano 120 = .ok (.aload_n 0, 1) := dk_42 (dk_at dksX0_piano_5 4 rfl rfl)
theorem dX0_piano_121 : decode cX0_piano 121 = .ok (.getfield 51, 3) := dk_180 0 51 (dk_at dksX0_piano_5 5 rfl rfl)
theorem dX0_piano_124 : decode cX0_piano 124 = .ok (.getfield 194, 3) := dk_180 0 194 (dk_at dksX0_piano_5 8 rfl rfl)
theorem dX0_piano_127 : decode cX0_piano 127 = .ok (.iload_n 2, 1) := dk_28 (dk_at dksX0_piano_5 11 rfl rfl)
theorem dX0_piano_128 : decode cX0_piano 128 = .ok (.aload_n 0, 1) := dk_42 (dk_at dksX0_piano_5 12 rfl rfl)
theorem dX0_piano_129 : decode cX0_piano 129 = .ok (.getfield 61, 3) := dk_180 0 61 (dk_at dksX0_piano_5 13 rfl rfl)
theorem dX0_piano_132 : decode cX0_piano 132 = .ok (.iload_n 2, 1) := dk_28 (dk_at dksX0_piano_5 16 rfl rfl)
theorem dX0_piano_133 : decode cX0_piano 133 = .ok (.iaload, 1) := dk_46 (dk_at dksX0_piano_5 17 rfl rfl)
theorem dX0_piano_134 : decode cX0_piano 134 = .ok (.iastore, 1) := dk_79 (dk_at dksX0_piano_5 18 rfl rfl)
theorem dX0_piano_135 : decode cX0_piano 135 = .ok (.iinc 2 1, 3) := dk_132 2 1 (dk_at dksX0_piano_5 19 rfl rfl)
theorem dX0_piano_138 : decode cX0_piano 138 = .ok (.goto (-54), 3) := dk_167 255 202 (dk_at dksX0_piano_6 0 rfl rfl)
theorem dX0_piano_141 : decode cX0_piano 141 = .ok (.aload_n 0, 1) := dk_42 (dk_at dksX0_piano_6 3 rfl rfl)
theorem dX0_piano_142 : decode cX0_piano 142 = .ok (.iconst 0, 1) := dk_3 (dk_at dksX0_piano_6 4 rfl rfl)
theorem dX0_piano_143 : decode cX0_piano 143 = .ok (.putfield 200, 3) := dk_181 0 200 (dk_at dksX0_piano_6 5 rfl rfl)
theorem dX0_piano_146 : decode cX0_piano 146 = .ok (.iconst 0, 1) := dk_3 (dk_at dksX0_piano_6 8 rfl rfl)
theorem dX0_piano_147 : decode cX0_piano 147 = .ok (.istore_n 2, 1) := dk_61 (dk_at dksX0_piano_6 9 rfl rfl)
theorem dX0_piano_148 : decode cX0_piano 148 = .ok (.iload_n 2, 1) := dk_28 (dk_at dksX0_piano_6 10 rfl rfl)
theorem dX0_piano_149 : decode cX0_piano 149 = .ok (.iconst 3, 1) := dk_6 (dk_at dksX0_piano_6 11 rfl rfl)
theorem dX0_piano_150 : decode cX0_piano 150 = .ok (.if_icmp .ge 16, 3) := dk_162 0 16 (dk_at dksX0_piano_6 12 rfl rfl)
theorem dX0_piano_153 : decode cX0_piano 153 = .ok (.aload_n 0, 1) := dk_42 (dk_at dksX0_piano_6 15 rfl rfl)
theorem dX0_piano_154 : decode cX0_piano 154 = .ok (.getfield 72, 3) := dk_180 0 72 (dk_at dksX0_piano_6 16 rfl rfl)
theorem dX0_piano_157 : decode cX0_piano 157 = .ok (.iload_n 2, 1) := dk_28 (dk_at dksX0_piano_6 19 rfl rfl)
theorem dX0_piano_158 : decode cX0_piano 158 = .ok (.aconst_null, 1) := dk_1 (dk_at dksX0_piano_6 20 rfl rfl)
theorem dX0_piano_159 : decode cX0_piano 159 = .ok (.aastore, 1) := dk_83 (dk_at dksX0_piano_6 21 rfl rfl)
theorem dX0_piano_160 : decode cX0_piano 160 = .ok (.iinc 2 1, 3) := dk_132 2 1 (dk_at dksX0_piano_7 0 rfl rfl)
theorem dX0_piano_163 : decode cX0_piano 163 = .ok (.goto (-15), 3) := dk_167 255 241 (dk_at dksX0_piano_7 3 rfl rfl)
theorem dX0_piano_166 : decode cX0_piano 166 = .ok (.aload_n 0, 1) := dk_42 (dk_at dksX0_piano_7 6 rfl rfl)
theorem dX0_piano_167 : decode cX0_piano 167 = .ok (.getfield 191, 3) := dk_180 0 191 (dk_at dksX0_piano_7 7 rfl rfl)
theorem dX0_piano_170 : decode cX0_piano 170 = .ok (.ireturn, 1) := dk_172 (dk_at dksX0_piano_7 10 rfl rfl)
abbrev cX0_newKey : ByteArray := prog_1_method_18_code
def yX0_newKey : MethodName := ⟨RX0, "newKey", "(IIII)LSandPiano$Key;"⟩
def dkwX0_newKey_4 : List UInt8 := [187, 0, 157, 89, 27, 28, 29, 183, 0, 159, 176, 187, 0, 42, 89, 27, 28, 29, 183, 0, 160, 176]
abbrev dktX0_newKey_4 : List UInt8 := dkwX0_newKey_4 ++ []
def dkwX0_newKey_3 : List UInt8 := [187, 0, 151, 89, 27, 28, 29, 183, 0, 153, 176, 187, 0, 154, 89, 27, 28, 29, 183, 0, 156, 176]
abbrev dktX0_newKey_3 : List UInt8 := dkwX0_newKey_3 ++ dktX0_newKey_4
def dkwX0_newKey_2 : List UInt8 := [187, 0, 143, 89, 27, 28, 29, 183, 0, 145, 176, 187, 0, 148, 89, 27, 28, 29, 183, 0, 150, 176]
abbrev dktX0_newKey_2 : List UInt8 := dkwX0_newKey_2 ++ dktX0_newKey_3
def dkwX0_newKey_1 : List UInt8 := [171, 0, 0, 0, 0, 0, 106, 0, 0, 0, 5, 0, 0, 0, 98, 0, 0, 0, 51, 0, 0, 0, 99, 0, 0, 0, 73, 0, 0, 0, 100, 0, 0, 0, 84, 0, 0, 0, 114, 0, 0, 0, 95, 0, 0, 0, 115, 0, 0, 0, 62]
abbrev dktX0_newKey_1 : List UInt8 := dkwX0_newKey_1 ++ dktX0_newKey_2
def dkwX0_newKey_0 : List UInt8 := [26]
abbrev dktX0_newKey_0 : List UInt8 := dkwX0_newKey_0 ++ dktX0_newKey_1
theorem dksX0_newKey_0 : cX0_newKey.data.toList.drop 0 = dktX0_newKey_0 := by decide +kernel
theorem dksX0_newKey_1 : cX0_newKey.data.toList.drop 1 = dktX0_newKey_1 := dk_seg dksX0_newKey_0 1 rfl rfl
theorem dksX0_newKey_2 : cX0_newKey.data.toList.drop 52 = dktX0_newKey_2 := dk_seg dksX0_newKey_1 51 rfl rfl
theorem dksX0_newKey_3 : cX0_newKey.data.toList.drop 74 = dktX0_newKey_3 := dk_seg dksX0_newKey_2 22 rfl rfl
theorem dksX0_newKey_4 : cX0_newKey.data.toList.drop 96 = dktX0_newKey_4 := dk_seg dksX0_newKey_3 22 rfl rfl
theorem dX0_newKey_0 : decode cX0_newKey 0 = .ok (.iload_n 0, 1) := dk_26 (dk_at dksX0_newKey_0 0 rfl rfl)
theorem dX0_newKey_1 : decode cX0_newKey 1 = .ok (.lookupswitch 106 #[(98, 51), (99, 73), (100, 84), (114, 95), (115, 62)], 51) := by decide +kernel
theorem dX0_newKey_52 : decode cX0_newKey 52 = .ok (.new 143, 3) := dk_187 0 143 (dk_at dksX0_newKey_2 0 rfl rfl)
theorem dX0_newKey_55 : decode cX0_newKey 55 = .ok (.dup, 1) := dk_89 (dk_at dksX0_newKey_2 3 rfl rfl)
theorem dX0_newKey_56 : decode cX0_newKey 56 = .ok (.iload_n 1, 1) := dk_27 (dk_at dksX0_newKey_2 4 rfl rfl)
theorem dX0_newKey_57 : decode cX0_newKey 57 = .ok (.iload_n 2, 1) := dk_28 (dk_at dksX0_newKey_2 5 rfl rfl)
theorem dX0_newKey_58 : decode cX0_newKey 58 = .ok (.iload_n 3, 1) := dk_29 (dk_at dksX0_newKey_2 6 rfl rfl)
theorem dX0_newKey_59 : decode cX0_newKey 59 = .ok (.invokespecial 145, 3) := dk_183 0 145 (dk_at dksX0_newKey_2 7 rfl rfl)
theorem dX0_newKey_62 : decode cX0_newKey 62 = .ok (.areturn, 1) := dk_176 (dk_at dksX0_newKey_2 10 rfl rfl)
theorem dX0_newKey_63 : decode cX0_newKey 63 = .ok (.new 148, 3) := dk_187 0 148 (dk_at dksX0_newKey_2 11 rfl rfl)
theorem dX0_newKey_66 : decode cX0_newKey 66 = .ok (.dup, 1) := dk_89 (dk_at dksX0_newKey_2 14 rfl rfl)
theorem dX0_newKey_67 : decode cX0_newKey 67 = .ok (.iload_n 1, 1) := dk_27 (dk_at dksX0_newKey_2 15 rfl rfl)
theorem dX0_newKey_68 : decode cX0_newKey 68 = .ok (.iload_n 2, 1) := dk_28 (dk_at dksX0_newKey_2 16 rfl rfl)
theorem dX0_newKey_69 : decode cX0_newKey 69 = .ok (.iload_n 3, 1) := dk_29 (dk_at dksX0_newKey_2 17 rfl rfl)
theorem dX0_newKey_70 : decode cX0_newKey 70 = .ok (.invokespecial 150, 3) := dk_183 0 150 (dk_at dksX0_newKey_2 18 rfl rfl)
theorem dX0_newKey_73 : decode cX0_newKey 73 = .ok (.areturn, 1) := dk_176 (dk_at dksX0_newKey_2 21 rfl rfl)
theorem dX0_newKey_74 : decode cX0_newKey 74 = .ok (.new 151, 3) := dk_187 0 151 (dk_at dksX0_newKey_3 0 rfl rfl)
theorem dX0_newKey_77 : decode cX0_newKey 77 = .ok (.dup, 1) := dk_89 (dk_at dksX0_newKey_3 3 rfl rfl)
theorem dX0_newKey_78 : decode cX0_newKey 78 = .ok (.iload_n 1, 1) := dk_27 (dk_at dksX0_newKey_3 4 rfl rfl)
theorem dX0_newKey_79 : decode cX0_newKey 79 = .ok (.iload_n 2, 1) := dk_28 (dk_at dksX0_newKey_3 5 rfl rfl)
theorem dX0_newKey_80 : decode cX0_newKey 80 = .ok (.iload_n 3, 1) := dk_29 (dk_at dksX0_newKey_3 6 rfl rfl)
theorem dX0_newKey_81 : decode cX0_newKey 81 = .ok (.invokespecial 153, 3) := dk_183 0 153 (dk_at dksX0_newKey_3 7 rfl rfl)
theorem dX0_newKey_84 : decode cX0_newKey 84 = .ok (.areturn, 1) := dk_176 (dk_at dksX0_newKey_3 10 rfl rfl)
theorem dX0_newKey_85 : decode cX0_newKey 85 = .ok (.new 154, 3) := dk_187 0 154 (dk_at dksX0_newKey_3 11 rfl rfl)
theorem dX0_newKey_88 : decode cX0_newKey 88 = .ok (.dup, 1) := dk_89 (dk_at dksX0_newKey_3 14 rfl rfl)
theorem dX0_newKey_89 : decode cX0_newKey 89 = .ok (.iload_n 1, 1) := dk_27 (dk_at dksX0_newKey_3 15 rfl rfl)
theorem dX0_newKey_90 : decode cX0_newKey 90 = .ok (.iload_n 2, 1) := dk_28 (dk_at dksX0_newKey_3 16 rfl rfl)
theorem dX0_newKey_91 : decode cX0_newKey 91 = .ok (.iload_n 3, 1) := dk_29 (dk_at dksX0_newKey_3 17 rfl rfl)
theorem dX0_newKey_92 : decode cX0_newKey 92 = .ok (.invokespecial 156, 3) := dk_183 0 156 (dk_at dksX0_newKey_3 18 rfl rfl)
theorem dX0_newKey_95 : decode cX0_newKey 95 = .ok (.areturn, 1) := dk_176 (dk_at dksX0_newKey_3 21 rfl rfl)
theorem dX0_newKey_96 : decode cX0_newKey 96 = .ok (.new 157, 3) := dk_187 0 157 (dk_at dksX0_newKey_4 0 rfl rfl)
theorem dX0_newKey_99 : decode cX0_newKey 99 = .ok (.dup, 1) := dk_89 (dk_at dksX0_newKey_4 3 rfl rfl)
theorem dX0_newKey_100 : decode cX0_newKey 100 = .ok (.iload_n 1, 1) := dk_27 (dk_at dksX0_newKey_4 4 rfl rfl)
theorem dX0_newKey_101 : decode cX0_newKey 101 = .ok (.iload_n 2, 1) := dk_28 (dk_at dksX0_newKey_4 5 rfl rfl)
theorem dX0_newKey_102 : decode cX0_newKey 102 = .ok (.iload_n 3, 1) := dk_29 (dk_at dksX0_newKey_4 6 rfl rfl)
theorem dX0_newKey_103 : decode cX0_newKey 103 = .ok (.invokespecial 159, 3) := dk_183 0 159 (dk_at dksX0_newKey_4 7 rfl rfl)
theorem dX0_newKey_106 : decode cX0_newKey 106 = .ok (.areturn, 1) := dk_176 (dk_at dksX0_newKey_4 10 rfl rfl)
theorem dX0_newKey_107 : decode cX0_newKey 107 = .ok (.new 42, 3) := dk_187 0 42 (dk_at dksX0_newKey_4 11 rfl rfl)
theorem dX0_newKey_110 : decode cX0_newKey 110 = .ok (.dup, 1) := dk_89 (dk_at dksX0_newKey_4 14 rfl rfl)
theorem dX0_newKey_111 : decode cX0_newKey 111 = .ok (.iload_n 1, 1) := dk_27 (dk_at dksX0_newKey_4 15 rfl rfl)
theorem dX0_newKey_112 : decode cX0_newKey 112 = .ok (.iload_n 2, 1) := dk_28 (dk_at dksX0_newKey_4 16 rfl rfl)
theorem dX0_newKey_113 : decode cX0_newKey 113 = .ok (.iload_n 3, 1) := dk_29 (dk_at dksX0_newKey_4 17 rfl rfl)
theorem dX0_newKey_114 : decode cX0_newKey 114 = .ok (.invokespecial 160, 3) := dk_183 0 160 (dk_at dksX0_newKey_4 18 rfl rfl)
theorem dX0_newKey_117 : decode cX0_newKey 117 = .ok (.areturn, 1) := dk_176 (dk_at dksX0_newKey_4 21 rfl rfl)
abbrev cX0_key : ByteArray := prog_1_method_28_code
def yX0_key : MethodName := ⟨RX0, "key", "(II)I"⟩
def dkwX0_key_1 : List UInt8 := [4, 182, 0, 123, 167, 0, 4, 2, 172]
abbrev dktX0_key_1 : List UInt8 := dkwX0_key_1 ++ []
def dkwX0_key_0 : List UInt8 := [42, 27, 182, 0, 216, 153, 0, 26, 28, 3, 7, 184, 0, 105, 153, 0, 17, 42, 42, 27, 28, 182, 0, 219]
abbrev dktX0_key_0 : List UInt8 := dkwX0_key_0 ++ dktX0_key_1
theorem dksX0_key_0 : cX0_key.data.toList.drop 0 = dktX0_key_0 := by decide +kernel
theorem dksX0_key_1 : cX0_key.data.toList.drop 24 = dktX0_key_1 := dk_seg dksX0_key_0 24 rfl rfl
theorem dX0_key_0 : decode cX0_key 0 = .ok (.aload_n 0, 1) := dk_42 (dk_at dksX0_key_0 0 rfl rfl)
theorem dX0_key_1 : decode cX0_key 1 = .ok (.iload_n 1, 1) := dk_27 (dk_at dksX0_key_0 1 rfl rfl)
theorem dX0_key_2 : decode cX0_key 2 = .ok (.invokevirtual 216, 3) := dk_182 0 216 (dk_at dksX0_key_0 2 rfl rfl)
theorem dX0_key_5 : decode cX0_key 5 = .ok (.ifCond .eq 26, 3) := dk_153 0 26 (dk_at dksX0_key_0 5 rfl rfl)
theorem dX0_key_8 : decode cX0_key 8 = .ok (.iload_n 2, 1) := dk_28 (dk_at dksX0_key_0 8 rfl rfl)
theorem dX0_key_9 : decode cX0_key 9 = .ok (.iconst 0, 1) := dk_3 (dk_at dksX0_key_0 9 rfl rfl)
theorem dX0_key_10 : decode cX0_key 10 = .ok (.iconst 4, 1) := dk_7 (dk_at dksX0_key_0 10 rfl rfl)
theorem dX0_key_11 : decode cX0_key 11 = .ok (.invokestatic 105, 3) := dk_184 0 105 (dk_at dksX0_key_0 11 rfl rfl)
theorem dX0_key_14 : decode cX0_key 14 = .ok (.ifCond .eq 17, 3) := dk_153 0 17 (dk_at dksX0_key_0 14 rfl rfl)
theorem dX0_key_17 : decode cX0_key 17 = .ok (.aload_n 0, 1) := dk_42 (dk_at dksX0_key_0 17 rfl rfl)
theorem dX0_key_18 : decode cX0_key 18 = .ok (.aload_n 0, 1) := dk_42 (dk_at dksX0_key_0 18 rfl rfl)
theorem dX0_key_19 : decode cX0_key 19 = .ok (.iload_n 1, 1) := dk_27 (dk_at dksX0_key_0 19 rfl rfl)
theorem dX0_key_20 : decode cX0_key 20 = .ok (.iload_n 2, 1) := dk_28 (dk_at dksX0_key_0 20 rfl rfl)
theorem dX0_key_21 : decode cX0_key 21 = .ok (.invokevirtual 219, 3) := dk_182 0 219 (dk_at dksX0_key_0 21 rfl rfl)
theorem dX0_key_24 : decode cX0_key 24 = .ok (.iconst 1, 1) := dk_4 (dk_at dksX0_key_1 0 rfl rfl)
theorem dX0_key_25 : decode cX0_key 25 = .ok (.invokevirtual 123, 3) := dk_182 0 123 (dk_at dksX0_key_1 1 rfl rfl)
theorem dX0_key_28 : decode cX0_key 28 = .ok (.goto 4, 3) := dk_167 0 4 (dk_at dksX0_key_1 4 rfl rfl)
theorem dX0_key_31 : decode cX0_key 31 = .ok (.iconst (-1), 1) := dk_2 (dk_at dksX0_key_1 7 rfl rfl)
theorem dX0_key_32 : decode cX0_key 32 = .ok (.ireturn, 1) := dk_172 (dk_at dksX0_key_1 8 rfl rfl)
abbrev cX0_isKey : ByteArray := prog_1_method_26_code
def yX0_isKey : MethodName := ⟨RX0, "isKey", "(I)Z"⟩
def dkwX0_isKey_0 : List UInt8 := [27, 3, 42, 180, 0, 191, 4, 100, 184, 0, 105, 172]
abbrev dktX0_isKey_0 : List UInt8 := dkwX0_isKey_0 ++ []
theorem dksX0_isKey_0 : cX0_isKey.data.toList.drop 0 = dktX0_isKey_0 := by decide +kernel
theorem dX0_isKey_0 : decode cX0_isKey 0 = .ok (.iload_n 1, 1) := dk_27 (dk_at dksX0_isKey_0 0 rfl rfl)
theorem dX0_isKey_1 : decode cX0_isKey 1 = .ok (.iconst 0, 1) := dk_3 (dk_at dksX0_isKey_0 1 rfl rfl)
theorem dX0_isKey_2 : decode cX0_isKey 2 = .ok (.aload_n 0, 1) := dk_42 (dk_at dksX0_isKey_0 2 rfl rfl)
theorem dX0_isKey_3 : decode cX0_isKey 3 = .ok (.getfield 191, 3) := dk_180 0 191 (dk_at dksX0_isKey_0 3 rfl rfl)
theorem dX0_isKey_6 : decode cX0_isKey 6 = .ok (.iconst 1, 1) := dk_4 (dk_at dksX0_isKey_0 6 rfl rfl)
theorem dX0_isKey_7 : decode cX0_isKey 7 = .ok (.isub, 1) := dk_100 (dk_at dksX0_isKey_0 7 rfl rfl)
theorem dX0_isKey_8 : decode cX0_isKey 8 = .ok (.invokestatic 105, 3) := dk_184 0 105 (dk_at dksX0_isKey_0 8 rfl rfl)
theorem dX0_isKey_11 : decode cX0_isKey 11 = .ok (.ireturn, 1) := dk_172 (dk_at dksX0_isKey_0 11 rfl rfl)
abbrev cX0_keyTells : ByteArray := prog_1_method_27_code
def yX0_keyTells : MethodName := ⟨RX0, "keyTells", "(II)I"⟩
def dkwX0_keyTells_3 : List UInt8 := [172, 45, 42, 180, 0, 51, 182, 0, 212, 153, 0, 7, 4, 167, 0, 4, 3, 172]
abbrev dktX0_keyTells_3 : List UInt8 := dkwX0_keyTells_3 ++ []
def dkwX0_keyTells_2 : List UInt8 := [45, 182, 0, 203, 172, 45, 182, 0, 206, 172, 42, 180, 0, 51, 180, 0, 194, 27, 46, 172, 45, 182, 0, 209]
abbrev dktX0_keyTells_2 : List UInt8 := dkwX0_keyTells_2 ++ dktX0_keyTells_3
def dkwX0_keyTells_1 : List UInt8 := [170, 0, 0, 0, 0, 0, 0, 57, 0, 0, 0, 0, 0, 0, 0, 3, 0, 0, 0, 32, 0, 0, 0, 37, 0, 0, 0, 42, 0, 0, 0, 52]
abbrev dktX0_keyTells_1 : List UInt8 := dkwX0_keyTells_1 ++ dktX0_keyTells_2
def dkwX0_keyTells_0 : List UInt8 := [42, 180, 0, 44, 27, 50, 78, 28]
abbrev dktX0_keyTells_0 : List UInt8 := dkwX0_keyTells_0 ++ dktX0_keyTells_1
theorem dksX0_keyTells_0 : cX0_keyTells.data.toList.drop 0 = dktX0_keyTells_0 := by decide +kernel
theorem dksX0_keyTells_1 : cX0_keyTells.data.toList.drop 8 = dktX0_keyTells_1 := dk_seg dksX0_keyTells_0 8 rfl rfl
theorem dksX0_keyTells_2 : cX0_keyTells.data.toList.drop 40 = dktX0_keyTells_2 := dk_seg dksX0_keyTells_1 32 rfl rfl
theorem dksX0_keyTells_3 : cX0_keyTells.data.toList.drop 64 = dktX0_keyTells_3 := dk_seg dksX0_keyTells_2 24 rfl rfl
theorem dX0_keyTells_0 : decode cX0_keyTells 0 = .ok (.aload_n 0, 1) := dk_42 (dk_at dksX0_keyTells_0 0 rfl rfl)
theorem dX0_keyTells_1 : decode cX0_keyTells 1 = .ok (.getfield 44, 3) := dk_180 0 44 (dk_at dksX0_keyTells_0 1 rfl rfl)
theorem dX0_keyTells_4 : decode cX0_keyTells 4 = .ok (.iload_n 1, 1) := dk_27 (dk_at dksX0_keyTells_0 4 rfl rfl)
theorem dX0_keyTells_5 : decode cX0_keyTells 5 = .ok (.aaload, 1) := dk_50 (dk_at dksX0_keyTells_0 5 rfl rfl)
theorem dX0_keyTells_6 : decode cX0_keyTells 6 = .ok (.astore_n 3, 1) := dk_78 (dk_at dksX0_keyTells_0 6 rfl rfl)
theorem dX0_keyTells_7 : decode cX0_keyTells 7 = .ok (.iload_n 2, 1) := dk_28 (dk_at dksX0_keyTells_0 7 rfl rfl)
theorem dX0_keyTells_8 : decode cX0_keyTells 8 = .ok (.tableswitch 57 0 3 #[32, 37, 42, 52], 32) := by decide +kernel
theorem dX0_keyTells_40 : decode cX0_keyTells 40 = .ok (.aload_n 3, 1) := dk_45 (dk_at dksX0_keyTells_2 0 rfl rfl)
theorem dX0_keyTells_41 : decode cX0_keyTells 41 = .ok (.invokevirtual 203, 3) := dk_182 0 203 (dk_at dksX0_keyTells_2 1 rfl rfl)
theorem dX0_keyTells_44 : decode cX0_keyTells 44 = .ok (.ireturn, 1) := dk_172 (dk_at dksX0_keyTells_2 4 rfl rfl)
theorem dX0_keyTells_45 : decode cX0_keyTells 45 = .ok (.aload_n 3, 1) := dk_45 (dk_at dksX0_keyTells_2 5 rfl rfl)
theorem dX0_keyTells_46 : decode cX0_keyTells 46 = .ok (.invokevirtual 206, 3) := dk_182 0 206 (dk_at dksX0_keyTells_2 6 rfl rfl)
theorem dX0_keyTells_49 : decode cX0_keyTells 49 = .ok (.ireturn, 1) := dk_172 (dk_at dksX0_keyTells_2 9 rfl rfl)
theorem dX0_keyTells_50 : decode cX0_keyTells 50 = .ok (.aload_n 0, 1) := dk_42 (dk_at dksX0_keyTells_2 10 rfl rfl)
theorem dX0_keyTells_51 : decode cX0_keyTells 51 = .ok (.getfield 51, 3) := dk_180 0 51 (dk_at dksX0_keyTells_2 11 rfl rfl)
theorem dX0_keyTells_54 : decode cX0_keyTells 54 = .ok (.getfield 194, 3) := dk_180 0 194 (dk_at dksX0_keyTells_2 14 rfl rfl)
theorem dX0_keyTells_57 : decode cX0_keyTells 57 = .ok (.iload_n 1, 1) := dk_27 (dk_at dksX0_keyTells_2 17 rfl rfl)
theorem dX0_keyTells_58 : decode cX0_keyTells 58 = .ok (.iaload, 1) := dk_46 (dk_at dksX0_keyTells_2 18 rfl rfl)
theorem dX0_keyTells_59 : decode cX0_keyTells 59 = .ok (.ireturn, 1) := dk_172 (dk_at dksX0_keyTells_2 19 rfl rfl)
theorem dX0_keyTells_60 : decode cX0_keyTells 60 = .ok (.aload_n 3, 1) := dk_45 (dk_at dksX0_keyTells_2 20 rfl rfl)
theorem dX0_keyTells_61 : decode cX0_keyTells 61 = .ok (.invokevirtual 209, 3) := dk_182 0 209 (dk_at dksX0_keyTells_2 21 rfl rfl)
theorem dX0_keyTells_64 : decode cX0_keyTells 64 = .ok (.ireturn, 1) := dk_172 (dk_at dksX0_keyTells_3 0 rfl rfl)
theorem dX0_keyTells_65 : decode cX0_keyTells 65 = .ok (.aload_n 3, 1) := dk_45 (dk_at dksX0_keyTells_3 1 rfl rfl)
theorem dX0_keyTells_66 : decode cX0_keyTells 66 = .ok (.aload_n 0, 1) := dk_42 (dk_at dksX0_keyTells_3 2 rfl rfl)
theorem dX0_keyTells_67 : decode cX0_keyTells 67 = .ok (.getfield 51, 3) := dk_180 0 51 (dk_at dksX0_keyTells_3 3 rfl rfl)
theorem dX0_keyTells_70 : decode cX0_keyTells 70 = .ok (.invokevirtual 212, 3) := dk_182 0 212 (dk_at dksX0_keyTells_3 6 rfl rfl)
theorem dX0_keyTells_73 : decode cX0_keyTells 73 = .ok (.ifCond .eq 7, 3) := dk_153 0 7 (dk_at dksX0_keyTells_3 9 rfl rfl)
theorem dX0_keyTells_76 : decode cX0_keyTells 76 = .ok (.iconst 1, 1) := dk_4 (dk_at dksX0_keyTells_3 12 rfl rfl)
theorem dX0_keyTells_77 : decode cX0_keyTells 77 = .ok (.goto 4, 3) := dk_167 0 4 (dk_at dksX0_keyTells_3 13 rfl rfl)
theorem dX0_keyTells_80 : decode cX0_keyTells 80 = .ok (.iconst 0, 1) := dk_3 (dk_at dksX0_keyTells_3 16 rfl rfl)
theorem dX0_keyTells_81 : decode cX0_keyTells 81 = .ok (.ireturn, 1) := dk_172 (dk_at dksX0_keyTells_3 17 rfl rfl)
abbrev cX0_mark : ByteArray := prog_1_method_29_code
def yX0_mark : MethodName := ⟨RX0, "mark", "(II)I"⟩
def dkwX0_mark_5 : List UInt8 := [42, 182, 0, 235, 172, 58, 4, 42, 6, 182, 0, 115, 172]
abbrev dktX0_mark_5 : List UInt8 := dkwX0_mark_5 ++ []
def dkwX0_mark_4 : List UInt8 := [45, 192, 0, 151, 42, 180, 0, 51, 182, 0, 229, 172, 45, 192, 0, 154, 182, 0, 232, 172, 45, 192, 0, 157]
abbrev dktX0_mark_4 : List UInt8 := dkwX0_mark_4 ++ dktX0_mark_5
def dkwX0_mark_3 : List UInt8 := [45, 192, 0, 143, 42, 180, 0, 51, 182, 0, 222, 172, 45, 192, 0, 148, 42, 180, 0, 51, 182, 0, 226, 172]
abbrev dktX0_mark_3 : List UInt8 := dkwX0_mark_3 ++ dktX0_mark_4
def dkwX0_mark_2 : List UInt8 := [170, 0, 0, 0, 73, 0, 0, 0, 1, 0, 0, 0, 4, 0, 0, 0, 29, 0, 0, 0, 41, 0, 0, 0, 53, 0, 0, 0, 65]
abbrev dktX0_mark_2 : List UInt8 := dkwX0_mark_2 ++ dktX0_mark_3
def dkwX0_mark_1 : List UInt8 := [50, 78, 28]
abbrev dktX0_mark_1 : List UInt8 := dkwX0_mark_1 ++ dktX0_mark_2
def dkwX0_mark_0 : List UInt8 := [42, 27, 182, 0, 216, 153, 0, 12, 28, 4, 8, 184, 0, 105, 154, 0, 5, 2, 172, 42, 180, 0, 44, 27]
abbrev dktX0_mark_0 : List UInt8 := dkwX0_mark_0 ++ dktX0_mark_1
theorem dksX0_mark_0 : cX0_mark.data.toList.drop 0 = dktX0_mark_0 := by decide +kernel
theorem dksX0_mark_1 : cX0_mark.data.toList.drop 24 = dktX0_mark_1 := dk_seg dksX0_mark_0 24 rfl rfl
theorem dksX0_mark_2 : cX0_mark.data.toList.drop 27 = dktX0_mark_2 := dk_seg dksX0_mark_1 3 rfl rfl
theorem dksX0_mark_3 : cX0_mark.data.toList.drop 56 = dktX0_mark_3 := dk_seg dksX0_mark_2 29 rfl rfl
theorem dksX0_mark_4 : cX0_mark.data.toList.drop 80 = dktX0_mark_4 := dk_seg dksX0_mark_3 24 rfl rfl
theorem dksX0_mark_5 : cX0_mark.data.toList.drop 104 = dktX0_mark_5 := dk_seg dksX0_mark_4 24 rfl rfl
theorem dX0_mark_0 : decode cX0_mark 0 = .ok (.aload_n 0, 1) := dk_42 (dk_at dksX0_mark_0 0 rfl rfl)
theorem dX0_mark_1 : decode cX0_mark 1 = .ok (.iload_n 1, 1) := dk_27 (dk_at dksX0_mark_0 1 rfl rfl)
theorem dX0_mark_2 : decode cX0_mark 2 = .ok (.invokevirtual 216, 3) := dk_182 0 216 (dk_at dksX0_mark_0 2 rfl rfl)
theorem dX0_mark_5 : decode cX0_mark 5 = .ok (.ifCond .eq 12, 3) := dk_153 0 12 (dk_at dksX0_mark_0 5 rfl rfl)
theorem dX0_mark_8 : decode cX0_mark 8 = .ok (.iload_n 2, 1) := dk_28 (dk_at dksX0_mark_0 8 rfl rfl)
theorem dX0_mark_9 : decode cX0_mark 9 = .ok (.iconst 1, 1) := dk_4 (dk_at dksX0_mark_0 9 rfl rfl)
theorem dX0_mark_10 : decode cX0_mark 10 = .ok (.iconst 5, 1) := dk_8 (dk_at dksX0_mark_0 10 rfl rfl)
theorem dX0_mark_11 : decode cX0_mark 11 = .ok (.invokestatic 105, 3) := dk_184 0 105 (dk_at dksX0_mark_0 11 rfl rfl)
theorem dX0_mark_14 : decode cX0_mark 14 = .ok (.ifCond .ne 5, 3) := dk_154 0 5 (dk_at dksX0_mark_0 14 rfl rfl)
theorem dX0_mark_17 : decode cX0_mark 17 = .ok (.iconst (-1), 1) := dk_2 (dk_at dksX0_mark_0 17 rfl rfl)
theorem dX0_mark_18 : decode cX0_mark 18 = .ok (.ireturn, 1) := dk_172 (dk_at dksX0_mark_0 18 rfl rfl)
theorem dX0_mark_19 : decode cX0_mark 19 = .ok (.aload_n 0, 1) := dk_42 (dk_at dksX0_mark_0 19 rfl rfl)
theorem dX0_mark_20 : decode cX0_mark 20 = .ok (.getfield 44, 3) := dk_180 0 44 (dk_at dksX0_mark_0 20 rfl rfl)
theorem dX0_mark_23 : decode cX0_mark 23 = .ok (.iload_n 1, 1) := dk_27 (dk_at dksX0_mark_0 23 rfl rfl)
theorem dX0_mark_24 : decode cX0_mark 24 = .ok (.aaload, 1) := dk_50 (dk_at dksX0_mark_1 0 rfl rfl)
theorem dX0_mark_25 : decode cX0_mark 25 = .ok (.astore_n 3, 1) := dk_78 (dk_at dksX0_mark_1 1 rfl rfl)
theorem dX0_mark_26 : decode cX0_mark 26 = .ok (.iload_n 2, 1) := dk_28 (dk_at dksX0_mark_1 2 rfl rfl)
theorem dX0_mark_27 : decode cX0_mark 27 = .ok (.tableswitch 73 1 4 #[29, 41, 53, 65], 29) := by decide +kernel
theorem dX0_mark_56 : decode cX0_mark 56 = .ok (.aload_n 3, 1) := dk_45 (dk_at dksX0_mark_3 0 rfl rfl)
theorem dX0_mark_57 : decode cX0_mark 57 = .ok (.checkcast 143, 3) := dk_192 0 143 (dk_at dksX0_mark_3 1 rfl rfl)
theorem dX0_mark_60 : decode cX0_mark 60 = .ok (.aload_n 0, 1) := dk_42 (dk_at dksX0_mark_3 4 rfl rfl)
theorem dX0_mark_61 : decode cX0_mark 61 = .ok (.getfield 51, 3) := dk_180 0 51 (dk_at dksX0_mark_3 5 rfl rfl)
theorem dX0_mark_64 : decode cX0_mark 64 = .ok (.invokevirtual 222, 3) := dk_182 0 222 (dk_at dksX0_mark_3 8 rfl rfl)
theorem dX0_mark_67 : decode cX0_mark 67 = .ok (.ireturn, 1) := dk_172 (dk_at dksX0_mark_3 11 rfl rfl)
theorem dX0_mark_68 : decode cX0_mark 68 = .ok (.aload_n 3, 1) := dk_45 (dk_at dksX0_mark_3 12 rfl rfl)
theorem dX0_mark_69 : decode cX0_mark 69 = .ok (.checkcast 148, 3) := dk_192 0 148 (dk_at dksX0_mark_3 13 rfl rfl)
theorem dX0_mark_72 : decode cX0_mark 72 = .ok (.aload_n 0, 1) := dk_42 (dk_at dksX0_mark_3 16 rfl rfl)
theorem dX0_mark_73 : decode cX0_mark 73 = .ok (.getfield 51, 3) := dk_180 0 51 (dk_at dksX0_mark_3 17 rfl rfl)
theorem dX0_mark_76 : decode cX0_mark 76 = .ok (.invokevirtual 226, 3) := dk_182 0 226 (dk_at dksX0_mark_3 20 rfl rfl)
theorem dX0_mark_79 : decode cX0_mark 79 = .ok (.ireturn, 1) := dk_172 (dk_at dksX0_mark_3 23 rfl rfl)
theorem dX0_mark_80 : decode cX0_mark 80 = .ok (.aload_n 3, 1) := dk_45 (dk_at dksX0_mark_4 0 rfl rfl)
theorem dX0_mark_81 : decode cX0_mark 81 = .ok (.checkcast 151, 3) := dk_192 0 151 (dk_at dksX0_mark_4 1 rfl rfl)
theorem dX0_mark_84 : decode cX0_mark 84 = .ok (.aload_n 0, 1) := dk_42 (dk_at dksX0_mark_4 4 rfl rfl)
theorem dX0_mark_85 : decode cX0_mark 85 = .ok (.getfield 51, 3) := dk_180 0 51 (dk_at dksX0_mark_4 5 rfl rfl)
theorem dX0_mark_88 : decode cX0_mark 88 = .ok (.invokevirtual 229, 3) := dk_182 0 229 (dk_at dksX0_mark_4 8 rfl rfl)
theorem dX0_mark_91 : decode cX0_mark 91 = .ok (.ireturn, 1) := dk_172 (dk_at dksX0_mark_4 11 rfl rfl)
theorem dX0_mark_92 : decode cX0_mark 92 = .ok (.aload_n 3, 1) := dk_45 (dk_at dksX0_mark_4 12 rfl rfl)
theorem dX0_mark_93 : decode cX0_mark 93 = .ok (.checkcast 154, 3) := dk_192 0 154 (dk_at dksX0_mark_4 13 rfl rfl)
theorem dX0_mark_96 : decode cX0_mark 96 = .ok (.invokevirtual 232, 3) := dk_182 0 232 (dk_at dksX0_mark_4 16 rfl rfl)
theorem dX0_mark_99 : decode cX0_mark 99 = .ok (.ireturn, 1) := dk_172 (dk_at dksX0_mark_4 19 rfl rfl)
theorem dX0_mark_100 : decode cX0_mark 100 = .ok (.aload_n 3, 1) := dk_45 (dk_at dksX0_mark_4 20 rfl rfl)
theorem dX0_mark_101 : decode cX0_mark 101 = .ok (.checkcast 157, 3) := dk_192 0 157 (dk_at dksX0_mark_4 21 rfl rfl)
theorem dX0_mark_104 : decode cX0_mark 104 = .ok (.aload_n 0, 1) := dk_42 (dk_at dksX0_mark_5 0 rfl rfl)
theorem dX0_mark_105 : decode cX0_mark 105 = .ok (.invokevirtual 235, 3) := dk_182 0 235 (dk_at dksX0_mark_5 1 rfl rfl)
theorem dX0_mark_108 : decode cX0_mark 108 = .ok (.ireturn, 1) := dk_172 (dk_at dksX0_mark_5 4 rfl rfl)
theorem dX0_mark_109 : decode cX0_mark 109 = .ok (.astore 4, 2) := dk_58 4 (dk_at dksX0_mark_5 5 rfl rfl)
theorem dX0_mark_111 : decode cX0_mark 111 = .ok (.aload_n 0, 1) := dk_42 (dk_at dksX0_mark_5 7 rfl rfl)
theorem dX0_mark_112 : decode cX0_mark 112 = .ok (.iconst 3, 1) := dk_6 (dk_at dksX0_mark_5 8 rfl rfl)
theorem dX0_mark_113 : decode cX0_mark 113 = .ok (.invokevirtual 115, 3) := dk_182 0 115 (dk_at dksX0_mark_5 9 rfl rfl)
theorem dX0_mark_116 : decode cX0_mark 116 = .ok (.ireturn, 1) := dk_172 (dk_at dksX0_mark_5 12 rfl rfl)
abbrev cX0_playable : ByteArray := prog_1_method_34_code
def yX0_playable : MethodName := ⟨RX0, "playable", "()I"⟩
def dkwX0_playable_0 : List UInt8 := [42, 42, 180, 0, 51, 182, 0, 245, 172]
abbrev dktX0_playable_0 : List UInt8 := dkwX0_playable_0 ++ []
theorem dksX0_playable_0 : cX0_playable.data.toList.drop 0 = dktX0_playable_0 := by decide +kernel
theorem dX0_playable_0 : decode cX0_playable 0 = .ok (.aload_n 0, 1) := dk_42 (dk_at dksX0_playable_0 0 rfl rfl)
theorem dX0_playable_1 : decode cX0_playable 1 = .ok (.aload_n 0, 1) := dk_42 (dk_at dksX0_playable_0 1 rfl rfl)
theorem dX0_playable_2 : decode cX0_playable 2 = .ok (.getfield 51, 3) := dk_180 0 51 (dk_at dksX0_playable_0 2 rfl rfl)
theorem dX0_playable_5 : decode cX0_playable 5 = .ok (.invokevirtual 245, 3) := dk_182 0 245 (dk_at dksX0_playable_0 5 rfl rfl)
theorem dX0_playable_8 : decode cX0_playable 8 = .ok (.ireturn, 1) := dk_172 (dk_at dksX0_playable_0 8 rfl rfl)
abbrev cX0_playableIn : ByteArray := prog_1_method_33_code
def yX0_playableIn : MethodName := ⟨RX0, "playableIn", "(LSandPiano$Sands;)I"⟩
def dkwX0_playableIn_1 : List UInt8 := [153, 0, 9, 4, 29, 120, 167, 0, 4, 3, 128, 61, 132, 3, 1, 167, 255, 222, 28, 172]
abbrev dktX0_playableIn_1 : List UInt8 := dkwX0_playableIn_1 ++ []
def dkwX0_playableIn_0 : List UInt8 := [3, 61, 3, 62, 29, 42, 180, 0, 191, 162, 0, 32, 28, 42, 180, 0, 44, 29, 50, 43, 182, 0, 212]
abbrev dktX0_playableIn_0 : List UInt8 := dkwX0_playableIn_0 ++ dktX0_playableIn_1
theorem dksX0_playableIn_0 : cX0_playableIn.data.toList.drop 0 = dktX0_playableIn_0 := by decide +kernel
theorem dksX0_playableIn_1 : cX0_playableIn.data.toList.drop 23 = dktX0_playableIn_1 := dk_seg dksX0_playableIn_0 23 rfl rfl
theorem dX0_playableIn_0 : decode cX0_playableIn 0 = .ok (.iconst 0, 1) := dk_3 (dk_at dksX0_playableIn_0 0 rfl rfl)
theorem dX0_playableIn_1 : decode cX0_playableIn 1 = .ok (.istore_n 2, 1) := dk_61 (dk_at dksX0_playableIn_0 1 rfl rfl)
theorem dX0_playableIn_2 : decode cX0_playableIn 2 = .ok (.iconst 0, 1) := dk_3 (dk_at dksX0_playableIn_0 2 rfl rfl)
theorem dX0_playableIn_3 : decode cX0_playableIn 3 = .ok (.istore_n 3, 1) := dk_62 (dk_at dksX0_playableIn_0 3 rfl rfl)
theorem dX0_playableIn_4 : decode cX0_playableIn 4 = .ok (.iload_n 3, 1) := dk_29 (dk_at dksX0_playableIn_0 4 rfl rfl)
theorem dX0_playableIn_5 : decode cX0_playableIn 5 = .ok (.aload_n 0, 1) := dk_42 (dk_at dksX0_playableIn_0 5 rfl rfl)
theorem dX0_playableIn_6 : decode cX0_playableIn 6 = .ok (.getfield 191, 3) := dk_180 0 191 (dk_at dksX0_playableIn_0 6 rfl rfl)
theorem dX0_playableIn_9 : decode cX0_playableIn 9 = .ok (.if_icmp .ge 32, 3) := dk_162 0 32 (dk_at dksX0_playableIn_0 9 rfl rfl)
theorem dX0_playableIn_12 : decode cX0_playableIn 12 = .ok (.iload_n 2, 1) := dk_28 (dk_at dksX0_playableIn_0 12 rfl rfl)
theorem dX0_playableIn_13 : decode cX0_playableIn 13 = .ok (.aload_n 0, 1) := dk_42 (dk_at dksX0_playableIn_0 13 rfl rfl)
theorem dX0_playableIn_14 : decode cX0_playableIn 14 = .ok (.getfield 44, 3) := dk_180 0 44 (dk_at dksX0_playableIn_0 14 rfl rfl)
theorem dX0_playableIn_17 : decode cX0_playableIn 17 = .ok (.iload_n 3, 1) := dk_29 (dk_at dksX0_playableIn_0 17 rfl rfl)
theorem dX0_playableIn_18 : decode cX0_playableIn 18 = .ok (.aaload, 1) := dk_50 (dk_at dksX0_playableIn_0 18 rfl rfl)
theorem dX0_playableIn_19 : decode cX0_playableIn 19 = .ok (.aload_n 1, 1) := dk_43 (dk_at dksX0_playableIn_0 19 rfl rfl)
theorem dX0_playableIn_20 : decode cX0_playableIn 20 = .ok (.invokevirtual 212, 3) := dk_182 0 212 (dk_at dksX0_playableIn_0 20 rfl rfl)
theorem dX0_playableIn_23 : decode cX0_playableIn 23 = .ok (.ifCond .eq 9, 3) := dk_153 0 9 (dk_at dksX0_playableIn_1 0 rfl rfl)
theorem dX0_playableIn_26 : decode cX0_playableIn 26 = .ok (.iconst 1, 1) := dk_4 (dk_at dksX0_playableIn_1 3 rfl rfl)
theorem dX0_playableIn_27 : decode cX0_playableIn 27 = .ok (.iload_n 3, 1) := dk_29 (dk_at dksX0_playableIn_1 4 rfl rfl)
theorem dX0_playableIn_28 : decode cX0_playableIn 28 = .ok (.ishl, 1) := dk_120 (dk_at dksX0_playableIn_1 5 rfl rfl)
theorem dX0_playableIn_29 : decode cX0_playableIn 29 = .ok (.goto 4, 3) := dk_167 0 4 (dk_at dksX0_playableIn_1 6 rfl rfl)
theorem dX0_playableIn_32 : decode cX0_playableIn 32 = .ok (.iconst 0, 1) := dk_3 (dk_at dksX0_playableIn_1 9 rfl rfl)
theorem dX0_playableIn_33 : decode cX0_playableIn 33 = .ok (.ior, 1) := dk_128 (dk_at dksX0_playableIn_1 10 rfl rfl)
theorem dX0_playableIn_34 : decode cX0_playableIn 34 = .ok (.istore_n 2, 1) := dk_61 (dk_at dksX0_playableIn_1 11 rfl rfl)
theorem dX0_playableIn_35 : decode cX0_playableIn 35 = .ok (.iinc 3 1, 3) := dk_132 3 1 (dk_at dksX0_playableIn_1 12 rfl rfl)
theorem dX0_playableIn_38 : decode cX0_playableIn 38 = .ok (.goto (-34), 3) := dk_167 255 222 (dk_at dksX0_playableIn_1 15 rfl rfl)
theorem dX0_playableIn_41 : decode cX0_playableIn 41 = .ok (.iload_n 2, 1) := dk_28 (dk_at dksX0_playableIn_1 18 rfl rfl)
theorem dX0_playableIn_42 : decode cX0_playableIn 42 = .ok (.ireturn, 1) := dk_172 (dk_at dksX0_playableIn_1 19 rfl rfl)
abbrev cX0_spade : ByteArray := prog_1_method_30_code
def yX0_spade : MethodName := ⟨RX0, "spade", "(I)I"⟩
def dkwX0_spade_1 : List UInt8 := [180, 0, 102, 61, 42, 27, 181, 0, 102, 28, 172]
abbrev dktX0_spade_1 : List UInt8 := dkwX0_spade_1 ++ []
def dkwX0_spade_0 : List UInt8 := [27, 4, 16, 9, 184, 0, 105, 154, 0, 5, 2, 172, 42, 180, 0, 191, 154, 0, 6, 16, 252, 172, 42]
abbrev dktX0_spade_0 : List UInt8 := dkwX0_spade_0 ++ dktX0_spade_1
theorem dksX0_spade_0 : cX0_spade.data.toList.drop 0 = dktX0_spade_0 := by decide +kernel
theorem dksX0_spade_1 : cX0_spade.data.toList.drop 23 = dktX0_spade_1 := dk_seg dksX0_spade_0 23 rfl rfl
theorem dX0_spade_0 : decode cX0_spade 0 = .ok (.iload_n 1, 1) := dk_27 (dk_at dksX0_spade_0 0 rfl rfl)
theorem dX0_spade_1 : decode cX0_spade 1 = .ok (.iconst 1, 1) := dk_4 (dk_at dksX0_spade_0 1 rfl rfl)
theorem dX0_spade_2 : decode cX0_spade 2 = .ok (.bipush 9, 2) := dk_16 9 (dk_at dksX0_spade_0 2 rfl rfl)
theorem dX0_spade_4 : decode cX0_spade 4 = .ok (.invokestatic 105, 3) := dk_184 0 105 (dk_at dksX0_spade_0 4 rfl rfl)
theorem dX0_spade_7 : decode cX0_spade 7 = .ok (.ifCond .ne 5, 3) := dk_154 0 5 (dk_at dksX0_spade_0 7 rfl rfl)
theorem dX0_spade_10 : decode cX0_spade 10 = .ok (.iconst (-1), 1) := dk_2 (dk_at dksX0_spade_0 10 rfl rfl)
theorem dX0_spade_11 : decode cX0_spade 11 = .ok (.ireturn, 1) := dk_172 (dk_at dksX0_spade_0 11 rfl rfl)
theorem dX0_spade_12 : decode cX0_spade 12 = .ok (.aload_n 0, 1) := dk_42 (dk_at dksX0_spade_0 12 rfl rfl)
theorem dX0_spade_13 : decode cX0_spade 13 = .ok (.getfield 191, 3) := dk_180 0 191 (dk_at dksX0_spade_0 13 rfl rfl)
theorem dX0_spade_16 : decode cX0_spade 16 = .ok (.ifCond .ne 6, 3) := dk_154 0 6 (dk_at dksX0_spade_0 16 rfl rfl)
theorem dX0_spade_19 : decode cX0_spade 19 = .ok (.bipush (-4), 2) := dk_16 252 (dk_at dksX0_spade_0 19 rfl rfl)
theorem dX0_spade_21 : decode cX0_spade 21 = .ok (.ireturn, 1) := dk_172 (dk_at dksX0_spade_0 21 rfl rfl)
theorem dX0_spade_22 : decode cX0_spade 22 = .ok (.aload_n 0, 1) := dk_42 (dk_at dksX0_spade_0 22 rfl rfl)
theorem dX0_spade_23 : decode cX0_spade 23 = .ok (.getfield 102, 3) := dk_180 0 102 (dk_at dksX0_spade_1 0 rfl rfl)
theorem dX0_spade_26 : decode cX0_spade 26 = .ok (.istore_n 2, 1) := dk_61 (dk_at dksX0_spade_1 3 rfl rfl)
theorem dX0_spade_27 : decode cX0_spade 27 = .ok (.aload_n 0, 1) := dk_42 (dk_at dksX0_spade_1 4 rfl rfl)
theorem dX0_spade_28 : decode cX0_spade 28 = .ok (.iload_n 1, 1) := dk_27 (dk_at dksX0_spade_1 5 rfl rfl)
theorem dX0_spade_29 : decode cX0_spade 29 = .ok (.putfield 102, 3) := dk_181 0 102 (dk_at dksX0_spade_1 6 rfl rfl)
theorem dX0_spade_32 : decode cX0_spade 32 = .ok (.iload_n 2, 1) := dk_28 (dk_at dksX0_spade_1 9 rfl rfl)
theorem dX0_spade_33 : decode cX0_spade 33 = .ok (.ireturn, 1) := dk_172 (dk_at dksX0_spade_1 10 rfl rfl)
abbrev cX0_play : ByteArray := prog_1_method_35_code
def yX0_play : MethodName := ⟨RX0, "play", "(I)I"⟩
def dkwX0_play_2 : List UInt8 := [180, 0, 51, 27, 182, 0, 251, 42, 180, 0, 44, 27, 50, 182, 0, 209, 172]
abbrev dktX0_play_2 : List UInt8 := dkwX0_play_2 ++ []
def dkwX0_play_1 : List UInt8 := [154, 0, 6, 16, 252, 172, 42, 180, 0, 200, 16, 60, 160, 0, 6, 16, 254, 172, 42, 182, 0, 248, 42, 42]
abbrev dktX0_play_1 : List UInt8 := dkwX0_play_1 ++ dktX0_play_2
def dkwX0_play_0 : List UInt8 := [42, 27, 182, 0, 216, 154, 0, 5, 2, 172, 42, 180, 0, 44, 27, 50, 42, 180, 0, 51, 182, 0, 212]
abbrev dktX0_play_0 : List UInt8 := dkwX0_play_0 ++ dktX0_play_1
theorem dksX0_play_0 : cX0_play.data.toList.drop 0 = dktX0_play_0 := by decide +kernel
theorem dksX0_play_1 : cX0_play.data.toList.drop 23 = dktX0_play_1 := dk_seg dksX0_play_0 23 rfl rfl
theorem dksX0_play_2 : cX0_play.data.toList.drop 47 = dktX0_play_2 := dk_seg dksX0_play_1 24 rfl rfl
theorem dX0_play_0 : decode cX0_play 0 = .ok (.aload_n 0, 1) := dk_42 (dk_at dksX0_play_0 0 rfl rfl)
theorem dX0_play_1 : decode cX0_play 1 = .ok (.iload_n 1, 1) := dk_27 (dk_at dksX0_play_0 1 rfl rfl)
theorem dX0_play_2 : decode cX0_play 2 = .ok (.invokevirtual 216, 3) := dk_182 0 216 (dk_at dksX0_play_0 2 rfl rfl)
theorem dX0_play_5 : decode cX0_play 5 = .ok (.ifCond .ne 5, 3) := dk_154 0 5 (dk_at dksX0_play_0 5 rfl rfl)
theorem dX0_play_8 : decode cX0_play 8 = .ok (.iconst (-1), 1) := dk_2 (dk_at dksX0_play_0 8 rfl rfl)
theorem dX0_play_9 : decode cX0_play 9 = .ok (.ireturn, 1) := dk_172 (dk_at dksX0_play_0 9 rfl rfl)
theorem dX0_play_10 : decode cX0_play 10 = .ok (.aload_n 0, 1) := dk_42 (dk_at dksX0_play_0 10 rfl rfl)
theorem dX0_play_11 : decode cX0_play 11 = .ok (.getfield 44, 3) := dk_180 0 44 (dk_at dksX0_play_0 11 rfl rfl)
theorem dX0_play_14 : decode cX0_play 14 = .ok (.iload_n 1, 1) := dk_27 (dk_at dksX0_play_0 14 rfl rfl)
theorem dX0_play_15 : decode cX0_play 15 = .ok (.aaload, 1) := dk_50 (dk_at dksX0_play_0 15 rfl rfl)
theorem dX0_play_16 : decode cX0_play 16 = .ok (.aload_n 0, 1) := dk_42 (dk_at dksX0_play_0 16 rfl rfl)
theorem dX0_play_17 : decode cX0_play 17 = .ok (.getfield 51, 3) := dk_180 0 51 (dk_at dksX0_play_0 17 rfl rfl)
theorem dX0_play_20 : decode cX0_play 20 = .ok (.invokevirtual 212, 3) := dk_182 0 212 (dk_at dksX0_play_0 20 rfl rfl)
theorem dX0_play_23 : decode cX0_play 23 = .ok (.ifCond .ne 6, 3) := dk_154 0 6 (dk_at dksX0_play_1 0 rfl rfl)
theorem dX0_play_26 : decode cX0_play 26 = .ok (.bipush (-4), 2) := dk_16 252 (dk_at dksX0_play_1 3 rfl rfl)
theorem dX0_play_28 : decode cX0_play 28 = .ok (.ireturn, 1) := dk_172 (dk_at dksX0_play_1 5 rfl rfl)
theorem dX0_play_29 : decode cX0_play 29 = .ok (.aload_n 0, 1) := dk_42 (dk_at dksX0_play_1 6 rfl rfl)
theorem dX0_play_30 : decode cX0_play 30 = .ok (.getfield 200, 3) := dk_180 0 200 (dk_at dksX0_play_1 7 rfl rfl)
theorem dX0_play_33 : decode cX0_play 33 = .ok (.bipush 60, 2) := dk_16 60 (dk_at dksX0_play_1 10 rfl rfl)
theorem dX0_play_35 : decode cX0_play 35 = .ok (.if_icmp .ne 6, 3) := dk_160 0 6 (dk_at dksX0_play_1 12 rfl rfl)
theorem dX0_play_38 : decode cX0_play 38 = .ok (.bipush (-2), 2) := dk_16 254 (dk_at dksX0_play_1 15 rfl rfl)
theorem dX0_play_40 : decode cX0_play 40 = .ok (.ireturn, 1) := dk_172 (dk_at dksX0_play_1 17 rfl rfl)
theorem dX0_play_41 : decode cX0_play 41 = .ok (.aload_n 0, 1) := dk_42 (dk_at dksX0_play_1 18 rfl rfl)
theorem dX0_play_42 : decode cX0_play 42 = .ok (.invokevirtual 248, 3) := dk_182 0 248 (dk_at dksX0_play_1 19 rfl rfl)
theorem dX0_play_45 : decode cX0_play 45 = .ok (.aload_n 0, 1) := dk_42 (dk_at dksX0_play_1 22 rfl rfl)
theorem dX0_play_46 : decode cX0_play 46 = .ok (.aload_n 0, 1) := dk_42 (dk_at dksX0_play_1 23 rfl rfl)
theorem dX0_play_47 : decode cX0_play 47 = .ok (.getfield 51, 3) := dk_180 0 51 (dk_at dksX0_play_2 0 rfl rfl)
theorem dX0_play_50 : decode cX0_play 50 = .ok (.iload_n 1, 1) := dk_27 (dk_at dksX0_play_2 3 rfl rfl)
theorem dX0_play_51 : decode cX0_play 51 = .ok (.invokevirtual 251, 3) := dk_182 0 251 (dk_at dksX0_play_2 4 rfl rfl)
theorem dX0_play_54 : decode cX0_play 54 = .ok (.aload_n 0, 1) := dk_42 (dk_at dksX0_play_2 7 rfl rfl)
theorem dX0_play_55 : decode cX0_play 55 = .ok (.getfield 44, 3) := dk_180 0 44 (dk_at dksX0_play_2 8 rfl rfl)
theorem dX0_play_58 : decode cX0_play 58 = .ok (.iload_n 1, 1) := dk_27 (dk_at dksX0_play_2 11 rfl rfl)
theorem dX0_play_59 : decode cX0_play 59 = .ok (.aaload, 1) := dk_50 (dk_at dksX0_play_2 12 rfl rfl)
theorem dX0_play_60 : decode cX0_play 60 = .ok (.invokevirtual 209, 3) := dk_182 0 209 (dk_at dksX0_play_2 13 rfl rfl)
theorem dX0_play_63 : decode cX0_play 63 = .ok (.ireturn, 1) := dk_172 (dk_at dksX0_play_2 16 rfl rfl)
abbrev cX0_note : ByteArray := prog_1_method_31_code
def yX0_note : MethodName := ⟨RX0, "note", "()V"⟩
def dkwX0_note_1 : List UInt8 := [42, 89, 180, 0, 200, 4, 96, 181, 0, 200, 177]
abbrev dktX0_note_1 : List UInt8 := dkwX0_note_1 ++ []
def dkwX0_note_0 : List UInt8 := [42, 180, 0, 51, 180, 0, 194, 3, 42, 180, 0, 67, 16, 9, 42, 180, 0, 200, 104, 16, 9, 184, 0, 130]
abbrev dktX0_note_0 : List UInt8 := dkwX0_note_0 ++ dktX0_note_1
theorem dksX0_note_0 : cX0_note.data.toList.drop 0 = dktX0_note_0 := by decide +kernel
theorem dksX0_note_1 : cX0_note.data.toList.drop 24 = dktX0_note_1 := dk_seg dksX0_note_0 24 rfl rfl
theorem dX0_note_0 : decode cX0_note 0 = .ok (.aload_n 0, 1) := dk_42 (dk_at dksX0_note_0 0 rfl rfl)
theorem dX0_note_1 : decode cX0_note 1 = .ok (.getfield 51, 3) := dk_180 0 51 (dk_at dksX0_note_0 1 rfl rfl)
theorem dX0_note_4 : decode cX0_note 4 = .ok (.getfield 194, 3) := dk_180 0 194 (dk_at dksX0_note_0 4 rfl rfl)
theorem dX0_note_7 : decode cX0_note 7 = .ok (.iconst 0, 1) := dk_3 (dk_at dksX0_note_0 7 rfl rfl)
theorem dX0_note_8 : decode cX0_note 8 = .ok (.aload_n 0, 1) := dk_42 (dk_at dksX0_note_0 8 rfl rfl)
theorem dX0_note_9 : decode cX0_note 9 = .ok (.getfield 67, 3) := dk_180 0 67 (dk_at dksX0_note_0 9 rfl rfl)
theorem dX0_note_12 : decode cX0_note 12 = .ok (.bipush 9, 2) := dk_16 9 (dk_at dksX0_note_0 12 rfl rfl)
theorem dX0_note_14 : decode cX0_note 14 = .ok (.aload_n 0, 1) := dk_42 (dk_at dksX0_note_0 14 rfl rfl)
theorem dX0_note_15 : decode cX0_note 15 = .ok (.getfield 200, 3) := dk_180 0 200 (dk_at dksX0_note_0 15 rfl rfl)
theorem dX0_note_18 : decode cX0_note 18 = .ok (.imul, 1) := dk_104 (dk_at dksX0_note_0 18 rfl rfl)
theorem dX0_note_19 : decode cX0_note 19 = .ok (.bipush 9, 2) := dk_16 9 (dk_at dksX0_note_0 19 rfl rfl)
theorem dX0_note_21 : decode cX0_note 21 = .ok (.invokestatic 130, 3) := dk_184 0 130 (dk_at dksX0_note_0 21 rfl rfl)
theorem dX0_note_24 : decode cX0_note 24 = .ok (.aload_n 0, 1) := dk_42 (dk_at dksX0_note_1 0 rfl rfl)
theorem dX0_note_25 : decode cX0_note 25 = .ok (.dup, 1) := dk_89 (dk_at dksX0_note_1 1 rfl rfl)
theorem dX0_note_26 : decode cX0_note 26 = .ok (.getfield 200, 3) := dk_180 0 200 (dk_at dksX0_note_1 2 rfl rfl)
theorem dX0_note_29 : decode cX0_note 29 = .ok (.iconst 1, 1) := dk_4 (dk_at dksX0_note_1 5 rfl rfl)
theorem dX0_note_30 : decode cX0_note 30 = .ok (.iadd, 1) := dk_96 (dk_at dksX0_note_1 6 rfl rfl)
theorem dX0_note_31 : decode cX0_note 31 = .ok (.putfield 200, 3) := dk_181 0 200 (dk_at dksX0_note_1 7 rfl rfl)
theorem dX0_note_34 : decode cX0_note 34 = .ok (.return_, 1) := dk_177 (dk_at dksX0_note_1 10 rfl rfl)
abbrev cX0_playIn : ByteArray := prog_1_method_32_code
def yX0_playIn : MethodName := ⟨RX0, "playIn", "(LSandPiano$Sands;I)V"⟩
def dkwX0_playIn_1 : List UInt8 := [180, 0, 44, 28, 50, 182, 0, 209, 96, 79, 177]
abbrev dktX0_playIn_1 : List UInt8 := dkwX0_playIn_1 ++ []
def dkwX0_playIn_0 : List UInt8 := [42, 180, 0, 44, 28, 50, 43, 42, 180, 0, 191, 182, 0, 241, 43, 180, 0, 194, 16, 8, 92, 46, 42]
abbrev dktX0_playIn_0 : List UInt8 := dkwX0_playIn_0 ++ dktX0_playIn_1
theorem dksX0_playIn_0 : cX0_playIn.data.toList.drop 0 = dktX0_playIn_0 := by decide +kernel
theorem dksX0_playIn_1 : cX0_playIn.data.toList.drop 23 = dktX0_playIn_1 := dk_seg dksX0_playIn_0 23 rfl rfl
theorem dX0_playIn_0 : decode cX0_playIn 0 = .ok (.aload_n 0, 1) := dk_42 (dk_at dksX0_playIn_0 0 rfl rfl)
theorem dX0_playIn_1 : decode cX0_playIn 1 = .ok (.getfield 44, 3) := dk_180 0 44 (dk_at dksX0_playIn_0 1 rfl rfl)
theorem dX0_playIn_4 : decode cX0_playIn 4 = .ok (.iload_n 2, 1) := dk_28 (dk_at dksX0_playIn_0 4 rfl rfl)
theorem dX0_playIn_5 : decode cX0_playIn 5 = .ok (.aaload, 1) := dk_50 (dk_at dksX0_playIn_0 5 rfl rfl)
theorem dX0_playIn_6 : decode cX0_playIn 6 = .ok (.aload_n 1, 1) := dk_43 (dk_at dksX0_playIn_0 6 rfl rfl)
theorem dX0_playIn_7 : decode cX0_playIn 7 = .ok (.aload_n 0, 1) := dk_42 (dk_at dksX0_playIn_0 7 rfl rfl)
theorem dX0_playIn_8 : decode cX0_playIn 8 = .ok (.getfield 191, 3) := dk_180 0 191 (dk_at dksX0_playIn_0 8 rfl rfl)
theorem dX0_playIn_11 : decode cX0_playIn 11 = .ok (.invokevirtual 241, 3) := dk_182 0 241 (dk_at dksX0_playIn_0 11 rfl rfl)
theorem dX0_playIn_14 : decode cX0_playIn 14 = .ok (.aload_n 1, 1) := dk_43 (dk_at dksX0_playIn_0 14 rfl rfl)
theorem dX0_playIn_15 : decode cX0_playIn 15 = .ok (.getfield 194, 3) := dk_180 0 194 (dk_at dksX0_playIn_0 15 rfl rfl)
theorem dX0_playIn_18 : decode cX0_playIn 18 = .ok (.bipush 8, 2) := dk_16 8 (dk_at dksX0_playIn_0 18 rfl rfl)
theorem dX0_playIn_20 : decode cX0_playIn 20 = .ok (.dup2, 1) := dk_92 (dk_at dksX0_playIn_0 20 rfl rfl)
theorem dX0_playIn_21 : decode cX0_playIn 21 = .ok (.iaload, 1) := dk_46 (dk_at dksX0_playIn_0 21 rfl rfl)
theorem dX0_playIn_22 : decode cX0_playIn 22 = .ok (.aload_n 0, 1) := dk_42 (dk_at dksX0_playIn_0 22 rfl rfl)
theorem dX0_playIn_23 : decode cX0_playIn 23 = .ok (.getfield 44, 3) := dk_180 0 44 (dk_at dksX0_playIn_1 0 rfl rfl)
theorem dX0_playIn_26 : decode cX0_playIn 26 = .ok (.iload_n 2, 1) := dk_28 (dk_at dksX0_playIn_1 3 rfl rfl)
theorem dX0_playIn_27 : decode cX0_playIn 27 = .ok (.aaload, 1) := dk_50 (dk_at dksX0_playIn_1 4 rfl rfl)
theorem dX0_playIn_28 : decode cX0_playIn 28 = .ok (.invokevirtual 209, 3) := dk_182 0 209 (dk_at dksX0_playIn_1 5 rfl rfl)
theorem dX0_playIn_31 : decode cX0_playIn 31 = .ok (.iadd, 1) := dk_96 (dk_at dksX0_playIn_1 8 rfl rfl)
theorem dX0_playIn_32 : decode cX0_playIn 32 = .ok (.iastore, 1) := dk_79 (dk_at dksX0_playIn_1 9 rfl rfl)
theorem dX0_playIn_33 : decode cX0_playIn 33 = .ok (.return_, 1) := dk_177 (dk_at dksX0_playIn_1 10 rfl rfl)
abbrev cX0_tide : ByteArray := prog_1_method_38_code
def yX0_tide : MethodName := ⟨RX0, "tide", "(I)I"⟩
def dkwX0_tide_1 : List UInt8 := [16, 60, 160, 0, 6, 16, 254, 172, 42, 182, 0, 248, 42, 42, 180, 0, 51, 27, 182, 1, 1, 172]
abbrev dktX0_tide_1 : List UInt8 := dkwX0_tide_1 ++ []
def dkwX0_tide_0 : List UInt8 := [27, 184, 0, 254, 154, 0, 5, 2, 172, 42, 180, 0, 191, 154, 0, 6, 16, 252, 172, 42, 180, 0, 200]
abbrev dktX0_tide_0 : List UInt8 := dkwX0_tide_0 ++ dktX0_tide_1
theorem dksX0_tide_0 : cX0_tide.data.toList.drop 0 = dktX0_tide_0 := by decide +kernel
theorem dksX0_tide_1 : cX0_tide.data.toList.drop 23 = dktX0_tide_1 := dk_seg dksX0_tide_0 23 rfl rfl
theorem dX0_tide_0 : decode cX0_tide 0 = .ok (.iload_n 1, 1) := dk_27 (dk_at dksX0_tide_0 0 rfl rfl)
theorem dX0_tide_1 : decode cX0_tide 1 = .ok (.invokestatic 254, 3) := dk_184 0 254 (dk_at dksX0_tide_0 1 rfl rfl)
theorem dX0_tide_4 : decode cX0_tide 4 = .ok (.ifCond .ne 5, 3) := dk_154 0 5 (dk_at dksX0_tide_0 4 rfl rfl)
theorem dX0_tide_7 : decode cX0_tide 7 = .ok (.iconst (-1), 1) := dk_2 (dk_at dksX0_tide_0 7 rfl rfl)
theorem dX0_tide_8 : decode cX0_tide 8 = .ok (.ireturn, 1) := dk_172 (dk_at dksX0_tide_0 8 rfl rfl)
theorem dX0_tide_9 : decode cX0_tide 9 = .ok (.aload_n 0, 1) := dk_42 (dk_at dksX0_tide_0 9 rfl rfl)
theorem dX0_tide_10 : decode cX0_tide 10 = .ok (.getfield 191, 3) := dk_180 0 191 (dk_at dksX0_tide_0 10 rfl rfl)
theorem dX0_tide_13 : decode cX0_tide 13 = .ok (.ifCond .ne 6, 3) := dk_154 0 6 (dk_at dksX0_tide_0 13 rfl rfl)
theorem dX0_tide_16 : decode cX0_tide 16 = .ok (.bipush (-4), 2) := dk_16 252 (dk_at dksX0_tide_0 16 rfl rfl)
theorem dX0_tide_18 : decode cX0_tide 18 = .ok (.ireturn, 1) := dk_172 (dk_at dksX0_tide_0 18 rfl rfl)
theorem dX0_tide_19 : decode cX0_tide 19 = .ok (.aload_n 0, 1) := dk_42 (dk_at dksX0_tide_0 19 rfl rfl)
theorem dX0_tide_20 : decode cX0_tide 20 = .ok (.getfield 200, 3) := dk_180 0 200 (dk_at dksX0_tide_0 20 rfl rfl)
theorem dX0_tide_23 : decode cX0_tide 23 = .ok (.bipush 60, 2) := dk_16 60 (dk_at dksX0_tide_1 0 rfl rfl)
theorem dX0_tide_25 : decode cX0_tide 25 = .ok (.if_icmp .ne 6, 3) := dk_160 0 6 (dk_at dksX0_tide_1 2 rfl rfl)
theorem dX0_tide_28 : decode cX0_tide 28 = .ok (.bipush (-2), 2) := dk_16 254 (dk_at dksX0_tide_1 5 rfl rfl)
theorem dX0_tide_30 : decode cX0_tide 30 = .ok (.ireturn, 1) := dk_172 (dk_at dksX0_tide_1 7 rfl rfl)
theorem dX0_tide_31 : decode cX0_tide 31 = .ok (.aload_n 0, 1) := dk_42 (dk_at dksX0_tide_1 8 rfl rfl)
theorem dX0_tide_32 : decode cX0_tide 32 = .ok (.invokevirtual 248, 3) := dk_182 0 248 (dk_at dksX0_tide_1 9 rfl rfl)
theorem dX0_tide_35 : decode cX0_tide 35 = .ok (.aload_n 0, 1) := dk_42 (dk_at dksX0_tide_1 12 rfl rfl)
theorem dX0_tide_36 : decode cX0_tide 36 = .ok (.aload_n 0, 1) := dk_42 (dk_at dksX0_tide_1 13 rfl rfl)
theorem dX0_tide_37 : decode cX0_tide 37 = .ok (.getfield 51, 3) := dk_180 0 51 (dk_at dksX0_tide_1 14 rfl rfl)
theorem dX0_tide_40 : decode cX0_tide 40 = .ok (.iload_n 1, 1) := dk_27 (dk_at dksX0_tide_1 17 rfl rfl)
theorem dX0_tide_41 : decode cX0_tide 41 = .ok (.invokevirtual 257, 3) := dk_182 1 1 (dk_at dksX0_tide_1 18 rfl rfl)
theorem dX0_tide_44 : decode cX0_tide 44 = .ok (.ireturn, 1) := dk_172 (dk_at dksX0_tide_1 21 rfl rfl)
abbrev cX0_isHeight : ByteArray := prog_1_method_37_code
def yX0_isHeight : MethodName := ⟨RX0, "isHeight", "(I)Z"⟩
def dkwX0_isHeight_0 : List UInt8 := [26, 3, 16, 9, 184, 0, 105, 172]
abbrev dktX0_isHeight_0 : List UInt8 := dkwX0_isHeight_0 ++ []
theorem dksX0_isHeight_0 : cX0_isHeight.data.toList.drop 0 = dktX0_isHeight_0 := by decide +kernel
theorem dX0_isHeight_0 : decode cX0_isHeight 0 = .ok (.iload_n 0, 1) := dk_26 (dk_at dksX0_isHeight_0 0 rfl rfl)
theorem dX0_isHeight_1 : decode cX0_isHeight 1 = .ok (.iconst 0, 1) := dk_3 (dk_at dksX0_isHeight_0 1 rfl rfl)
theorem dX0_isHeight_2 : decode cX0_isHeight 2 = .ok (.bipush 9, 2) := dk_16 9 (dk_at dksX0_isHeight_0 2 rfl rfl)
theorem dX0_isHeight_4 : decode cX0_isHeight 4 = .ok (.invokestatic 105, 3) := dk_184 0 105 (dk_at dksX0_isHeight_0 4 rfl rfl)
theorem dX0_isHeight_7 : decode cX0_isHeight 7 = .ok (.ireturn, 1) := dk_172 (dk_at dksX0_isHeight_0 7 rfl rfl)
abbrev cX0_tideIn : ByteArray := prog_1_method_36_code
def yX0_tideIn : MethodName := ⟨RX0, "tideIn", "(LSandPiano$Sands;I)I"⟩
def dkwX0_tideIn_2 : List UInt8 := [180, 0, 194, 16, 7, 92, 46, 29, 96, 79, 29, 172]
abbrev dktX0_tideIn_2 : List UInt8 := dkwX0_tideIn_2 ++ []
def dkwX0_tideIn_1 : List UInt8 := [21, 4, 92, 46, 28, 21, 4, 100, 96, 79, 29, 28, 21, 4, 100, 96, 62, 132, 4, 1, 167, 255, 217, 43]
abbrev dktX0_tideIn_1 : List UInt8 := dkwX0_tideIn_1 ++ dktX0_tideIn_2
def dkwX0_tideIn_0 : List UInt8 := [3, 62, 3, 54, 4, 21, 4, 42, 180, 0, 191, 162, 0, 36, 21, 4, 28, 162, 0, 30, 43, 180, 0, 194]
abbrev dktX0_tideIn_0 : List UInt8 := dkwX0_tideIn_0 ++ dktX0_tideIn_1
theorem dksX0_tideIn_0 : cX0_tideIn.data.toList.drop 0 = dktX0_tideIn_0 := by decide +kernel
theorem dksX0_tideIn_1 : cX0_tideIn.data.toList.drop 24 = dktX0_tideIn_1 := dk_seg dksX0_tideIn_0 24 rfl rfl
theorem dksX0_tideIn_2 : cX0_tideIn.data.toList.drop 48 = dktX0_tideIn_2 := dk_seg dksX0_tideIn_1 24 rfl rfl
theorem dX0_tideIn_0 : decode cX0_tideIn 0 = .ok (.iconst 0, 1) := dk_3 (dk_at dksX0_tideIn_0 0 rfl rfl)
theorem dX0_tideIn_1 : decode cX0_tideIn 1 = .ok (.istore_n 3, 1) := dk_62 (dk_at dksX0_tideIn_0 1 rfl rfl)
theorem dX0_tideIn_2 : decode cX0_tideIn 2 = .ok (.iconst 0, 1) := dk_3 (dk_at dksX0_tideIn_0 2 rfl rfl)
theorem dX0_tideIn_3 : decode cX0_tideIn 3 = .ok (.istore 4, 2) := dk_54 4 (dk_at dksX0_tideIn_0 3 rfl rfl)
theorem dX0_tideIn_5 : decode cX0_tideIn 5 = .ok (.iload 4, 2) := dk_21 4 (dk_at dksX0_tideIn_0 5 rfl rfl)
theorem dX0_tideIn_7 : decode cX0_tideIn 7 = .ok (.aload_n 0, 1) := dk_42 (dk_at dksX0_tideIn_0 7 rfl rfl)
theorem dX0_tideIn_8 : decode cX0_tideIn 8 = .ok (.getfield 191, 3) := dk_180 0 191 (dk_at dksX0_tideIn_0 8 rfl rfl)
theorem dX0_tideIn_11 : decode cX0_tideIn 11 = .ok (.if_icmp .ge 36, 3) := dk_162 0 36 (dk_at dksX0_tideIn_0 11 rfl rfl)
theorem dX0_tideIn_14 : decode cX0_tideIn 14 = .ok (.iload 4, 2) := dk_21 4 (dk_at dksX0_tideIn_0 14 rfl rfl)
theorem dX0_tideIn_16 : decode cX0_tideIn 16 = .ok (.iload_n 2, 1) := dk_28 (dk_at dksX0_tideIn_0 16 rfl rfl)
theorem dX0_tideIn_17 : decode cX0_tideIn 17 = .ok (.if_icmp .ge 30, 3) := dk_162 0 30 (dk_at dksX0_tideIn_0 17 rfl rfl)
theorem dX0_tideIn_20 : decode cX0_tideIn 20 = .ok (.aload_n 1, 1) := dk_43 (dk_at dksX0_tideIn_0 20 rfl rfl)
theorem dX0_tideIn_21 : decode cX0_tideIn 21 = .ok (.getfield 194, 3) := dk_180 0 194 (dk_at dksX0_tideIn_0 21 rfl rfl)
theorem dX0_tideIn_24 : decode cX0_tideIn 24 = .ok (.iload 4, 2) := dk_21 4 (dk_at dksX0_tideIn_1 0 rfl rfl)
theorem dX0_tideIn_26 : decode cX0_tideIn 26 = .ok (.dup2, 1) := dk_92 (dk_at dksX0_tideIn_1 2 rfl rfl)
theorem dX0_tideIn_27 : decode cX0_tideIn 27 = .ok (.iaload, 1) := dk_46 (dk_at dksX0_tideIn_1 3 rfl rfl)
theorem dX0_tideIn_28 : decode cX0_tideIn 28 = .ok (.iload_n 2, 1) := dk_28 (dk_at dksX0_tideIn_1 4 rfl rfl)
theorem dX0_tideIn_29 : decode cX0_tideIn 29 = .ok (.iload 4, 2) := dk_21 4 (dk_at dksX0_tideIn_1 5 rfl rfl)
theorem dX0_tideIn_31 : decode cX0_tideIn 31 = .ok (.isub, 1) := dk_100 (dk_at dksX0_tideIn_1 7 rfl rfl)
theorem dX0_tideIn_32 : decode cX0_tideIn 32 = .ok (.iadd, 1) := dk_96 (dk_at dksX0_tideIn_1 8 rfl rfl)
theorem dX0_tideIn_33 : decode cX0_tideIn 33 = .ok (.iastore, 1) := dk_79 (dk_at dksX0_tideIn_1 9 rfl rfl)
theorem dX0_tideIn_34 : decode cX0_tideIn 34 = .ok (.iload_n 3, 1) := dk_29 (dk_at dksX0_tideIn_1 10 rfl rfl)
theorem dX0_tideIn_35 : decode cX0_tideIn 35 = .ok (.iload_n 2, 1) := dk_28 (dk_at dksX0_tideIn_1 11 rfl rfl)
theorem dX0_tideIn_36 : decode cX0_tideIn 36 = .ok (.iload 4, 2) := dk_21 4 (dk_at dksX0_tideIn_1 12 rfl rfl)
theorem dX0_tideIn_38 : decode cX0_tideIn 38 = .ok (.isub, 1) := dk_100 (dk_at dksX0_tideIn_1 14 rfl rfl)
theorem dX0_tideIn_39 : decode cX0_tideIn 39 = .ok (.iadd, 1) := dk_96 (dk_at dksX0_tideIn_1 15 rfl rfl)
theorem dX0_tideIn_40 : decode cX0_tideIn 40 = .ok (.istore_n 3, 1) := dk_62 (dk_at dksX0_tideIn_1 16 rfl rfl)
theorem dX0_tideIn_41 : decode cX0_tideIn 41 = .ok (.iinc 4 1, 3) := dk_132 4 1 (dk_at dksX0_tideIn_1 17 rfl rfl)
theorem dX0_tideIn_44 : decode cX0_tideIn 44 = .ok (.goto (-39), 3) := dk_167 255 217 (dk_at dksX0_tideIn_1 20 rfl rfl)
theorem dX0_tideIn_47 : decode cX0_tideIn 47 = .ok (.aload_n 1, 1) := dk_43 (dk_at dksX0_tideIn_1 23 rfl rfl)
theorem dX0_tideIn_48 : decode cX0_tideIn 48 = .ok (.getfield 194, 3) := dk_180 0 194 (dk_at dksX0_tideIn_2 0 rfl rfl)
theorem dX0_tideIn_51 : decode cX0_tideIn 51 = .ok (.bipush 7, 2) := dk_16 7 (dk_at dksX0_tideIn_2 3 rfl rfl)
theorem dX0_tideIn_53 : decode cX0_tideIn 53 = .ok (.dup2, 1) := dk_92 (dk_at dksX0_tideIn_2 5 rfl rfl)
theorem dX0_tideIn_54 : decode cX0_tideIn 54 = .ok (.iaload, 1) := dk_46 (dk_at dksX0_tideIn_2 6 rfl rfl)
theorem dX0_tideIn_55 : decode cX0_tideIn 55 = .ok (.iload_n 3, 1) := dk_29 (dk_at dksX0_tideIn_2 7 rfl rfl)
theorem dX0_tideIn_56 : decode cX0_tideIn 56 = .ok (.iadd, 1) := dk_96 (dk_at dksX0_tideIn_2 8 rfl rfl)
theorem dX0_tideIn_57 : decode cX0_tideIn 57 = .ok (.iastore, 1) := dk_79 (dk_at dksX0_tideIn_2 9 rfl rfl)
theorem dX0_tideIn_58 : decode cX0_tideIn 58 = .ok (.iload_n 3, 1) := dk_29 (dk_at dksX0_tideIn_2 10 rfl rfl)
theorem dX0_tideIn_59 : decode cX0_tideIn 59 = .ok (.ireturn, 1) := dk_172 (dk_at dksX0_tideIn_2 11 rfl rfl)
abbrev cX0_storm : ByteArray := prog_1_method_39_code
def yX0_storm : MethodName := ⟨RX0, "storm", "(I)I"⟩
def dkwX0_storm_4 : List UInt8 := [180, 0, 51, 180, 0, 194, 42, 180, 0, 191, 4, 100, 28, 100, 3, 79, 29, 172]
abbrev dktX0_storm_4 : List UInt8 := dkwX0_storm_4 ++ []
def dkwX0_storm_3 : List UInt8 := [180, 0, 194, 4, 27, 100, 42, 180, 0, 51, 180, 0, 194, 27, 42, 180, 0, 191, 4, 100, 184, 0, 130, 42]
abbrev dktX0_storm_3 : List UInt8 := dkwX0_storm_3 ++ dktX0_storm_4
def dkwX0_storm_2 : List UInt8 := [180, 0, 191, 4, 100, 61, 42, 180, 0, 51, 28, 16, 6, 19, 1, 5, 182, 1, 6, 62, 42, 180, 0, 51]
abbrev dktX0_storm_2 : List UInt8 := dkwX0_storm_2 ++ dktX0_storm_3
def dkwX0_storm_1 : List UInt8 := [180, 0, 200, 16, 60, 160, 0, 6, 16, 254, 172, 42, 182, 0, 248, 27, 154, 0, 7, 3, 167, 0, 9, 42]
abbrev dktX0_storm_1 : List UInt8 := dkwX0_storm_1 ++ dktX0_storm_2
def dkwX0_storm_0 : List UInt8 := [27, 3, 4, 184, 0, 105, 154, 0, 5, 2, 172, 42, 180, 0, 191, 154, 0, 6, 16, 252, 172, 42]
abbrev dktX0_storm_0 : List UInt8 := dkwX0_storm_0 ++ dktX0_storm_1
theorem dksX0_storm_0 : cX0_storm.data.toList.drop 0 = dktX0_storm_0 := by decide +kernel
theorem dksX0_storm_1 : cX0_storm.data.toList.drop 22 = dktX0_storm_1 := dk_seg dksX0_storm_0 22 rfl rfl
theorem dksX0_storm_2 : cX0_storm.data.toList.drop 46 = dktX0_storm_2 := dk_seg dksX0_storm_1 24 rfl rfl
theorem dksX0_storm_3 : cX0_storm.data.toList.drop 70 = dktX0_storm_3 := dk_seg dksX0_storm_2 24 rfl rfl
theorem dksX0_storm_4 : cX0_storm.data.toList.drop 94 = dktX0_storm_4 := dk_seg dksX0_storm_3 24 rfl rfl
theorem dX0_storm_0 : decode cX0_storm 0 = .ok (.iload_n 1, 1) := dk_27 (dk_at dksX0_storm_0 0 rfl rfl)
theorem dX0_storm_1 : decode cX0_storm 1 = .ok (.iconst 0, 1) := dk_3 (dk_at dksX0_storm_0 1 rfl rfl)
theorem dX0_storm_2 : decode cX0_storm 2 = .ok (.iconst 1, 1) := dk_4 (dk_at dksX0_storm_0 2 rfl rfl)
theorem dX0_storm_3 : decode cX0_storm 3 = .ok (.invokestatic 105, 3) := dk_184 0 105 (dk_at dksX0_storm_0 3 rfl rfl)
theorem dX0_storm_6 : decode cX0_storm 6 = .ok (.ifCond .ne 5, 3) := dk_154 0 5 (dk_at dksX0_storm_0 6 rfl rfl)
theorem dX0_storm_9 : decode cX0_storm 9 = .ok (.iconst (-1), 1) := dk_2 (dk_at dksX0_storm_0 9 rfl rfl)
theorem dX0_storm_10 : decode cX0_storm 10 = .ok (.ireturn, 1) := dk_172 (dk_at dksX0_storm_0 10 rfl rfl)
theorem dX0_storm_11 : decode cX0_storm 11 = .ok (.aload_n 0, 1) := dk_42 (dk_at dksX0_storm_0 11 rfl rfl)
theorem dX0_storm_12 : decode cX0_storm 12 = .ok (.getfield 191, 3) := dk_180 0 191 (dk_at dksX0_storm_0 12 rfl rfl)
theorem dX0_storm_15 : decode cX0_storm 15 = .ok (.ifCond .ne 6, 3) := dk_154 0 6 (dk_at dksX0_storm_0 15 rfl rfl)
theorem dX0_storm_18 : decode cX0_storm 18 = .ok (.bipush (-4), 2) := dk_16 252 (dk_at dksX0_storm_0 18 rfl rfl)
theorem dX0_storm_20 : decode cX0_storm 20 = .ok (.ireturn, 1) := dk_172 (dk_at dksX0_storm_0 20 rfl rfl)
theorem dX0_storm_21 : decode cX0_storm 21 = .ok (.aload_n 0, 1) := dk_42 (dk_at dksX0_storm_0 21 rfl rfl)
theorem dX0_storm_22 : decode cX0_storm 22 = .ok (.getfield 200, 3) := dk_180 0 200 (dk_at dksX0_storm_1 0 rfl rfl)
theorem dX0_storm_25 : decode cX0_storm 25 = .ok (.bipush 60, 2) := dk_16 60 (dk_at dksX0_storm_1 3 rfl rfl)
theorem dX0_storm_27 : decode cX0_storm 27 = .ok (.if_icmp .ne 6, 3) := dk_160 0 6 (dk_at dksX0_storm_1 5 rfl rfl)
theorem dX0_storm_30 : decode cX0_storm 30 = .ok (.bipush (-2), 2) := dk_16 254 (dk_at dksX0_storm_1 8 rfl rfl)
theorem dX0_storm_32 : decode cX0_storm 32 = .ok (.ireturn, 1) := dk_172 (dk_at dksX0_storm_1 10 rfl rfl)
theorem dX0_storm_33 : decode cX0_storm 33 = .ok (.aload_n 0, 1) := dk_42 (dk_at dksX0_storm_1 11 rfl rfl)
theorem dX0_storm_34 : decode cX0_storm 34 = .ok (.invokevirtual 248, 3) := dk_182 0 248 (dk_at dksX0_storm_1 12 rfl rfl)
theorem dX0_storm_37 : decode cX0_storm 37 = .ok (.iload_n 1, 1) := dk_27 (dk_at dksX0_storm_1 15 rfl rfl)
theorem dX0_storm_38 : decode cX0_storm 38 = .ok (.ifCond .ne 7, 3) := dk_154 0 7 (dk_at dksX0_storm_1 16 rfl rfl)
theorem dX0_storm_41 : decode cX0_storm 41 = .ok (.iconst 0, 1) := dk_3 (dk_at dksX0_storm_1 19 rfl rfl)
theorem dX0_storm_42 : decode cX0_storm 42 = .ok (.goto 9, 3) := dk_167 0 9 (dk_at dksX0_storm_1 20 rfl rfl)
theorem dX0_storm_45 : decode cX0_storm 45 = .ok (.aload_n 0, 1) := dk_42 (dk_at dksX0_storm_1 23 rfl rfl)
theorem dX0_storm_46 : decode cX0_storm 46 = .ok (.getfield 191, 3) := dk_180 0 191 (dk_at dksX0_storm_2 0 rfl rfl)
theorem dX0_storm_49 : decode cX0_storm 49 = .ok (.iconst 1, 1) := dk_4 (dk_at dksX0_storm_2 3 rfl rfl)
theorem dX0_storm_50 : decode cX0_storm 50 = .ok (.isub, 1) := dk_100 (dk_at dksX0_storm_2 4 rfl rfl)
theorem dX0_storm_51 : decode cX0_storm 51 = .ok (.istore_n 2, 1) := dk_61 (dk_at dksX0_storm_2 5 rfl rfl)
theorem dX0_storm_52 : decode cX0_storm 52 = .ok (.aload_n 0, 1) := dk_42 (dk_at dksX0_storm_2 6 rfl rfl)
theorem dX0_storm_53 : decode cX0_storm 53 = .ok (.getfield 51, 3) := dk_180 0 51 (dk_at dksX0_storm_2 7 rfl rfl)
theorem dX0_storm_56 : decode cX0_storm 56 = .ok (.iload_n 2, 1) := dk_28 (dk_at dksX0_storm_2 10 rfl rfl)
theorem dX0_storm_57 : decode cX0_storm 57 = .ok (.bipush 6, 2) := dk_16 6 (dk_at dksX0_storm_2 11 rfl rfl)
theorem dX0_storm_59 : decode cX0_storm 59 = .ok (.ldc_w 261, 3) := dk_19 1 5 (dk_at dksX0_storm_2 13 rfl rfl)
theorem dX0_storm_62 : decode cX0_storm 62 = .ok (.invokevirtual 262, 3) := dk_182 1 6 (dk_at dksX0_storm_2 16 rfl rfl)
theorem dX0_storm_65 : decode cX0_storm 65 = .ok (.istore_n 3, 1) := dk_62 (dk_at dksX0_storm_2 19 rfl rfl)
theorem dX0_storm_66 : decode cX0_storm 66 = .ok (.aload_n 0, 1) := dk_42 (dk_at dksX0_storm_2 20 rfl rfl)
theorem dX0_storm_67 : decode cX0_storm 67 = .ok (.getfield 51, 3) := dk_180 0 51 (dk_at dksX0_storm_2 21 rfl rfl)
theorem dX0_storm_70 : decode cX0_storm 70 = .ok (.getfield 194, 3) := dk_180 0 194 (dk_at dksX0_storm_3 0 rfl rfl)
theorem dX0_storm_73 : decode cX0_storm 73 = .ok (.iconst 1, 1) := dk_4 (dk_at dksX0_storm_3 3 rfl rfl)
theorem dX0_storm_74 : decode cX0_storm 74 = .ok (.iload_n 1, 1) := dk_27 (dk_at dksX0_storm_3 4 rfl rfl)
theorem dX0_storm_75 : decode cX0_storm 75 = .ok (.isub, 1) := dk_100 (dk_at dksX0_storm_3 5 rfl rfl)
theorem dX0_storm_76 : decode cX0_storm 76 = .ok (.aload_n 0, 1) := dk_42 (dk_at dksX0_storm_3 6 rfl rfl)
theorem dX0_storm_77 : decode cX0_storm 77 = .ok (.getfield 51, 3) := dk_180 0 51 (dk_at dksX0_storm_3 7 rfl rfl)
theorem dX0_storm_80 : decode cX0_storm 80 = .ok (.getfield 194, 3) := dk_180 0 194 (dk_at dksX0_storm_3 10 rfl rfl)
theorem dX0_storm_83 : decode cX0_storm 83 = .ok (.iload_n 1, 1) := dk_27 (dk_at dksX0_storm_3 13 rfl rfl)
theorem dX0_storm_84 : decode cX0_storm 84 = .ok (.aload_n 0, 1) := dk_42 (dk_at dksX0_storm_3 14 rfl rfl)
theorem dX0_storm_85 : decode cX0_storm 85 = .ok (.getfield 191, 3) := dk_180 0 191 (dk_at dksX0_storm_3 15 rfl rfl)
theorem dX0_storm_88 : decode cX0_storm 88 = .ok (.iconst 1, 1) := dk_4 (dk_at dksX0_storm_3 18 rfl rfl)
theorem dX0_storm_89 : decode cX0_storm 89 = .ok (.isub, 1) := dk_100 (dk_at dksX0_storm_3 19 rfl rfl)
theorem dX0_storm_90 : decode cX0_storm 90 = .ok (.invokestatic 130, 3) := dk_184 0 130 (dk_at dksX0_storm_3 20 rfl rfl)
theorem dX0_storm_93 : decode cX0_storm 93 = .ok (.aload_n 0, 1) := dk_42 (dk_at dksX0_storm_3 23 rfl rfl)
theorem dX0_storm_94 : decode cX0_storm 94 = .ok (.getfield 51, 3) := dk_180 0 51 (dk_at dksX0_storm_4 0 rfl rfl)
theorem dX0_storm_97 : decode cX0_storm 97 = .ok (.getfield 194, 3) := dk_180 0 194 (dk_at dksX0_storm_4 3 rfl rfl)
theorem dX0_storm_100 : decode cX0_storm 100 = .ok (.aload_n 0, 1) := dk_42 (dk_at dksX0_storm_4 6 rfl rfl)
theorem dX0_storm_101 : decode cX0_storm 101 = .ok (.getfield 191, 3) := dk_180 0 191 (dk_at dksX0_storm_4 7 rfl rfl)
theorem dX0_storm_104 : decode cX0_storm 104 = .ok (.iconst 1, 1) := dk_4 (dk_at dksX0_storm_4 10 rfl rfl)
theorem dX0_storm_105 : decode cX0_storm 105 = .ok (.isub, 1) := dk_100 (dk_at dksX0_storm_4 11 rfl rfl)
theorem dX0_storm_106 : decode cX0_storm 106 = .ok (.iload_n 2, 1) := dk_28 (dk_at dksX0_storm_4 12 rfl rfl)
theorem dX0_storm_107 : decode cX0_storm 107 = .ok (.isub, 1) := dk_100 (dk_at dksX0_storm_4 13 rfl rfl)
theorem dX0_storm_108 : decode cX0_storm 108 = .ok (.iconst 0, 1) := dk_3 (dk_at dksX0_storm_4 14 rfl rfl)
theorem dX0_storm_109 : decode cX0_storm 109 = .ok (.iastore, 1) := dk_79 (dk_at dksX0_storm_4 15 rfl rfl)
theorem dX0_storm_110 : decode cX0_storm 110 = .ok (.iload_n 3, 1) := dk_29 (dk_at dksX0_storm_4 16 rfl rfl)
theorem dX0_storm_111 : decode cX0_storm 111 = .ok (.ireturn, 1) := dk_172 (dk_at dksX0_storm_4 17 rfl rfl)
abbrev cX0_dig : ByteArray := prog_1_method_41_code
def yX0_dig : MethodName := ⟨RX0, "dig", "(I)I"⟩
def dkwX0_dig_1 : List UInt8 := [182, 0, 248, 42, 42, 180, 0, 51, 27, 182, 1, 10, 172]
abbrev dktX0_dig_1 : List UInt8 := dkwX0_dig_1 ++ []
def dkwX0_dig_0 : List UInt8 := [42, 27, 182, 0, 216, 154, 0, 5, 2, 172, 42, 180, 0, 200, 16, 60, 160, 0, 6, 16, 254, 172, 42]
abbrev dktX0_dig_0 : List UInt8 := dkwX0_dig_0 ++ dktX0_dig_1
theorem dksX0_dig_0 : cX0_dig.data.toList.drop 0 = dktX0_dig_0 := by decide +kernel
theorem dksX0_dig_1 : cX0_dig.data.toList.drop 23 = dktX0_dig_1 := dk_seg dksX0_dig_0 23 rfl rfl
theorem dX0_dig_0 : decode cX0_dig 0 = .ok (.aload_n 0, 1) := dk_42 (dk_at dksX0_dig_0 0 rfl rfl)
theorem dX0_dig_1 : decode cX0_dig 1 = .ok (.iload_n 1, 1) := dk_27 (dk_at dksX0_dig_0 1 rfl rfl)
theorem dX0_dig_2 : decode cX0_dig 2 = .ok (.invokevirtual 216, 3) := dk_182 0 216 (dk_at dksX0_dig_0 2 rfl rfl)
theorem dX0_dig_5 : decode cX0_dig 5 = .ok (.ifCond .ne 5, 3) := dk_154 0 5 (dk_at dksX0_dig_0 5 rfl rfl)
theorem dX0_dig_8 : decode cX0_dig 8 = .ok (.iconst (-1), 1) := dk_2 (dk_at dksX0_dig_0 8 rfl rfl)
theorem dX0_dig_9 : decode cX0_dig 9 = .ok (.ireturn, 1) := dk_172 (dk_at dksX0_dig_0 9 rfl rfl)
theorem dX0_dig_10 : decode cX0_dig 10 = .ok (.aload_n 0, 1) := dk_42 (dk_at dksX0_dig_0 10 rfl rfl)
theorem dX0_dig_11 : decode cX0_dig 11 = .ok (.getfield 200, 3) := dk_180 0 200 (dk_at dksX0_dig_0 11 rfl rfl)
theorem dX0_dig_14 : decode cX0_dig 14 = .ok (.bipush 60, 2) := dk_16 60 (dk_at dksX0_dig_0 14 rfl rfl)
theorem dX0_dig_16 : decode cX0_dig 16 = .ok (.if_icmp .ne 6, 3) := dk_160 0 6 (dk_at dksX0_dig_0 16 rfl rfl)
theorem dX0_dig_19 : decode cX0_dig 19 = .ok (.bipush (-2), 2) := dk_16 254 (dk_at dksX0_dig_0 19 rfl rfl)
theorem dX0_dig_21 : decode cX0_dig 21 = .ok (.ireturn, 1) := dk_172 (dk_at dksX0_dig_0 21 rfl rfl)
theorem dX0_dig_22 : decode cX0_dig 22 = .ok (.aload_n 0, 1) := dk_42 (dk_at dksX0_dig_0 22 rfl rfl)
theorem dX0_dig_23 : decode cX0_dig 23 = .ok (.invokevirtual 248, 3) := dk_182 0 248 (dk_at dksX0_dig_1 0 rfl rfl)
theorem dX0_dig_26 : decode cX0_dig 26 = .ok (.aload_n 0, 1) := dk_42 (dk_at dksX0_dig_1 3 rfl rfl)
theorem dX0_dig_27 : decode cX0_dig 27 = .ok (.aload_n 0, 1) := dk_42 (dk_at dksX0_dig_1 4 rfl rfl)
theorem dX0_dig_28 : decode cX0_dig 28 = .ok (.getfield 51, 3) := dk_180 0 51 (dk_at dksX0_dig_1 5 rfl rfl)
theorem dX0_dig_31 : decode cX0_dig 31 = .ok (.iload_n 1, 1) := dk_27 (dk_at dksX0_dig_1 8 rfl rfl)
theorem dX0_dig_32 : decode cX0_dig 32 = .ok (.invokevirtual 266, 3) := dk_182 1 10 (dk_at dksX0_dig_1 9 rfl rfl)
theorem dX0_dig_35 : decode cX0_dig 35 = .ok (.ireturn, 1) := dk_172 (dk_at dksX0_dig_1 12 rfl rfl)
abbrev cX0_digIn : ByteArray := prog_1_method_40_code
def yX0_digIn : MethodName := ⟨RX0, "digIn", "(LSandPiano$Sands;I)I"⟩
def dkwX0_digIn_0 : List UInt8 := [43, 28, 16, 6, 42, 180, 0, 102, 182, 1, 6, 172]
abbrev dktX0_digIn_0 : List UInt8 := dkwX0_digIn_0 ++ []
theorem dksX0_digIn_0 : cX0_digIn.data.toList.drop 0 = dktX0_digIn_0 := by decide +kernel
theorem dX0_digIn_0 : decode cX0_digIn 0 = .ok (.aload_n 1, 1) := dk_43 (dk_at dksX0_digIn_0 0 rfl rfl)
theorem dX0_digIn_1 : decode cX0_digIn 1 = .ok (.iload_n 2, 1) := dk_28 (dk_at dksX0_digIn_0 1 rfl rfl)
theorem dX0_digIn_2 : decode cX0_digIn 2 = .ok (.bipush 6, 2) := dk_16 6 (dk_at dksX0_digIn_0 2 rfl rfl)
theorem dX0_digIn_4 : decode cX0_digIn 4 = .ok (.aload_n 0, 1) := dk_42 (dk_at dksX0_digIn_0 4 rfl rfl)
theorem dX0_digIn_5 : decode cX0_digIn 5 = .ok (.getfield 102, 3) := dk_180 0 102 (dk_at dksX0_digIn_0 5 rfl rfl)
theorem dX0_digIn_8 : decode cX0_digIn 8 = .ok (.invokevirtual 262, 3) := dk_182 1 6 (dk_at dksX0_digIn_0 8 rfl rfl)
theorem dX0_digIn_11 : decode cX0_digIn 11 = .ok (.ireturn, 1) := dk_172 (dk_at dksX0_digIn_0 11 rfl rfl)
abbrev cX0_undo : ByteArray := prog_1_method_42_code
def yX0_undo : MethodName := ⟨RX0, "undo", "(I)I"⟩
def dkwX0_undo_2 : List UInt8 := [42, 27, 181, 0, 200, 28, 172]
abbrev dktX0_undo_2 : List UInt8 := dkwX0_undo_2 ++ []
def dkwX0_undo_1 : List UInt8 := [158, 0, 29, 42, 180, 0, 67, 16, 9, 27, 104, 42, 180, 0, 51, 180, 0, 194, 3, 16, 9, 184, 0, 130]
abbrev dktX0_undo_1 : List UInt8 := dkwX0_undo_1 ++ dktX0_undo_2
def dkwX0_undo_0 : List UInt8 := [27, 3, 42, 180, 0, 200, 184, 0, 105, 154, 0, 5, 2, 172, 42, 180, 0, 200, 27, 100, 61, 28]
abbrev dktX0_undo_0 : List UInt8 := dkwX0_undo_0 ++ dktX0_undo_1
theorem dksX0_undo_0 : cX0_undo.data.toList.drop 0 = dktX0_undo_0 := by decide +kernel
theorem dksX0_undo_1 : cX0_undo.data.toList.drop 22 = dktX0_undo_1 := dk_seg dksX0_undo_0 22 rfl rfl
theorem dksX0_undo_2 : cX0_undo.data.toList.drop 46 = dktX0_undo_2 := dk_seg dksX0_undo_1 24 rfl rfl
theorem dX0_undo_0 : decode cX0_undo 0 = .ok (.iload_n 1, 1) := dk_27 (dk_at dksX0_undo_0 0 rfl rfl)
theorem dX0_undo_1 : decode cX0_undo 1 = .ok (.iconst 0, 1) := dk_3 (dk_at dksX0_undo_0 1 rfl rfl)
theorem dX0_undo_2 : decode cX0_undo 2 = .ok (.aload_n 0, 1) := dk_42 (dk_at dksX0_undo_0 2 rfl rfl)
theorem dX0_undo_3 : decode cX0_undo 3 = .ok (.getfield 200, 3) := dk_180 0 200 (dk_at dksX0_undo_0 3 rfl rfl)
theorem dX0_undo_6 : decode cX0_undo 6 = .ok (.invokestatic 105, 3) := dk_184 0 105 (dk_at dksX0_undo_0 6 rfl rfl)
theorem dX0_undo_9 : decode cX0_undo 9 = .ok (.ifCond .ne 5, 3) := dk_154 0 5 (dk_at dksX0_undo_0 9 rfl rfl)
theorem dX0_undo_12 : decode cX0_undo 12 = .ok (.iconst (-1), 1) := dk_2 (dk_at dksX0_undo_0 12 rfl rfl)
theorem dX0_undo_13 : decode cX0_undo 13 = .ok (.ireturn, 1) := dk_172 (dk_at dksX0_undo_0 13 rfl rfl)
theorem dX0_undo_14 : decode cX0_undo 14 = .ok (.aload_n 0, 1) := dk_42 (dk_at dksX0_undo_0 14 rfl rfl)
theorem dX0_undo_15 : decode cX0_undo 15 = .ok (.getfield 200, 3) := dk_180 0 200 (dk_at dksX0_undo_0 15 rfl rfl)
theorem dX0_undo_18 : decode cX0_undo 18 = .ok (.iload_n 1, 1) := dk_27 (dk_at dksX0_undo_0 18 rfl rfl)
theorem dX0_undo_19 : decode cX0_undo 19 = .ok (.isub, 1) := dk_100 (dk_at dksX0_undo_0 19 rfl rfl)
theorem dX0_undo_20 : decode cX0_undo 20 = .ok (.istore_n 2, 1) := dk_61 (dk_at dksX0_undo_0 20 rfl rfl)
theorem dX0_undo_21 : decode cX0_undo 21 = .ok (.iload_n 2, 1) := dk_28 (dk_at dksX0_undo_0 21 rfl rfl)
theorem dX0_undo_22 : decode cX0_undo 22 = .ok (.ifCond .le 29, 3) := dk_158 0 29 (dk_at dksX0_undo_1 0 rfl rfl)
theorem dX0_undo_25 : decode cX0_undo 25 = .ok (.aload_n 0, 1) := dk_42 (dk_at dksX0_undo_1 3 rfl rfl)
theorem dX0_undo_26 : decode cX0_undo 26 = .ok (.getfield 67, 3) := dk_180 0 67 (dk_at dksX0_undo_1 4 rfl rfl)
theorem dX0_undo_29 : decode cX0_undo 29 = .ok (.bipush 9, 2) := dk_16 9 (dk_at dksX0_undo_1 7 rfl rfl)
theorem dX0_undo_31 : decode cX0_undo 31 = .ok (.iload_n 1, 1) := dk_27 (dk_at dksX0_undo_1 9 rfl rfl)
theorem dX0_undo_32 : decode cX0_undo 32 = .ok (.imul, 1) := dk_104 (dk_at dksX0_undo_1 10 rfl rfl)
theorem dX0_undo_33 : decode cX0_undo 33 = .ok (.aload_n 0, 1) := dk_42 (dk_at dksX0_undo_1 11 rfl rfl)
theorem dX0_undo_34 : decode cX0_undo 34 = .ok (.getfield 51, 3) := dk_180 0 51 (dk_at dksX0_undo_1 12 rfl rfl)
theorem dX0_undo_37 : decode cX0_undo 37 = .ok (.getfield 194, 3) := dk_180 0 194 (dk_at dksX0_undo_1 15 rfl rfl)
theorem dX0_undo_40 : decode cX0_undo 40 = .ok (.iconst 0, 1) := dk_3 (dk_at dksX0_undo_1 18 rfl rfl)
theorem dX0_undo_41 : decode cX0_undo 41 = .ok (.bipush 9, 2) := dk_16 9 (dk_at dksX0_undo_1 19 rfl rfl)
theorem dX0_undo_43 : decode cX0_undo 43 = .ok (.invokestatic 130, 3) := dk_184 0 130 (dk_at dksX0_undo_1 21 rfl rfl)
theorem dX0_undo_46 : decode cX0_undo 46 = .ok (.aload_n 0, 1) := dk_42 (dk_at dksX0_undo_2 0 rfl rfl)
theorem dX0_undo_47 : decode cX0_undo 47 = .ok (.iload_n 1, 1) := dk_27 (dk_at dksX0_undo_2 1 rfl rfl)
theorem dX0_undo_48 : decode cX0_undo 48 = .ok (.putfield 200, 3) := dk_181 0 200 (dk_at dksX0_undo_2 2 rfl rfl)
theorem dX0_undo_51 : decode cX0_undo 51 = .ok (.iload_n 2, 1) := dk_28 (dk_at dksX0_undo_2 5 rfl rfl)
theorem dX0_undo_52 : decode cX0_undo 52 = .ok (.ireturn, 1) := dk_172 (dk_at dksX0_undo_2 6 rfl rfl)
abbrev cX0_can : ByteArray := prog_1_method_43_code
def yX0_can : MethodName := ⟨RX0, "can", "()I"⟩
theorem dX0_can_0 : decode cX0_can 0 = .ok (.aload_n 0, 1) := by decide +kernel
theorem dX0_can_1 : decode cX0_can 1 = .ok (.invokevirtual 269, 3) := by decide +kernel
theorem dX0_can_4 : decode cX0_can 4 = .ok (.ireturn, 1) := by decide +kernel
abbrev cX0_keep : ByteArray := prog_1_method_45_code
def yX0_keep : MethodName := ⟨RX0, "keep", "(I)I"⟩
def dkwX0_keep_4 : List UInt8 := [27, 50, 42, 180, 0, 102, 181, 1, 27, 42, 180, 0, 200, 172]
abbrev dktX0_keep_4 : List UInt8 := dkwX0_keep_4 ++ []
def dkwX0_keep_3 : List UInt8 := [3, 17, 2, 28, 184, 0, 130, 42, 180, 0, 72, 27, 50, 42, 180, 0, 200, 181, 1, 26, 42, 180, 0, 72]
abbrev dktX0_keep_3 : List UInt8 := dkwX0_keep_3 ++ dktX0_keep_4
def dkwX0_keep_2 : List UInt8 := [180, 1, 20, 42, 180, 0, 51, 182, 1, 21, 42, 180, 0, 67, 3, 42, 180, 0, 72, 27, 50, 180, 1, 25]
abbrev dktX0_keep_2 : List UInt8 := dkwX0_keep_2 ++ dktX0_keep_3
def dkwX0_keep_1 : List UInt8 := [50, 199, 0, 16, 42, 180, 0, 72, 27, 187, 0, 70, 89, 183, 1, 19, 83, 42, 180, 0, 72, 27, 50]
abbrev dktX0_keep_1 : List UInt8 := dkwX0_keep_1 ++ dktX0_keep_2
def dkwX0_keep_0 : List UInt8 := [27, 184, 1, 16, 154, 0, 5, 2, 172, 42, 180, 0, 191, 154, 0, 6, 16, 252, 172, 42, 180, 0, 72, 27]
abbrev dktX0_keep_0 : List UInt8 := dkwX0_keep_0 ++ dktX0_keep_1
theorem dksX0_keep_0 : cX0_keep.data.toList.drop 0 = dktX0_keep_0 := by decide +kernel
theorem dksX0_keep_1 : cX0_keep.data.toList.drop 24 = dktX0_keep_1 := dk_seg dksX0_keep_0 24 rfl rfl
theorem dksX0_keep_2 : cX0_keep.data.toList.drop 47 = dktX0_keep_2 := dk_seg dksX0_keep_1 23 rfl rfl
theorem dksX0_keep_3 : cX0_keep.data.toList.drop 71 = dktX0_keep_3 := dk_seg dksX0_keep_2 24 rfl rfl
theorem dksX0_keep_4 : cX0_keep.data.toList.drop 95 = dktX0_keep_4 := dk_seg dksX0_keep_3 24 rfl rfl
theorem dX0_keep_0 : decode cX0_keep 0 = .ok (.iload_n 1, 1) := dk_27 (dk_at dksX0_keep_0 0 rfl rfl)
theorem dX0_keep_1 : decode cX0_keep 1 = .ok (.invokestatic 272, 3) := dk_184 1 16 (dk_at dksX0_keep_0 1 rfl rfl)
theorem dX0_keep_4 : decode cX0_keep 4 = .ok (.ifCond .ne 5, 3) := dk_154 0 5 (dk_at dksX0_keep_0 4 rfl rfl)
theorem dX0_keep_7 : decode cX0_keep 7 = .ok (.iconst (-1), 1) := dk_2 (dk_at dksX0_keep_0 7 rfl rfl)
theorem dX0_keep_8 : decode cX0_keep 8 = .ok (.ireturn, 1) := dk_172 (dk_at dksX0_keep_0 8 rfl rfl)
theorem dX0_keep_9 : decode cX0_keep 9 = .ok (.aload_n 0, 1) := dk_42 (dk_at dksX0_keep_0 9 rfl rfl)
theorem dX0_keep_10 : decode cX0_keep 10 = .ok (.getfield 191, 3) := dk_180 0 191 (dk_at dksX0_keep_0 10 rfl rfl)
theorem dX0_keep_13 : decode cX0_keep 13 = .ok (.ifCond .ne 6, 3) := dk_154 0 6 (dk_at dksX0_keep_0 13 rfl rfl)
theorem dX0_keep_16 : decode cX0_keep 16 = .ok (.bipush (-4), 2) := dk_16 252 (dk_at dksX0_keep_0 16 rfl rfl)
theorem dX0_keep_18 : decode cX0_keep 18 = .ok (.ireturn, 1) := dk_172 (dk_at dksX0_keep_0 18 rfl rfl)
theorem dX0_keep_19 : decode cX0_keep 19 = .ok (.aload_n 0, 1) := dk_42 (dk_at dksX0_keep_0 19 rfl rfl)
theorem dX0_keep_20 : decode cX0_keep 20 = .ok (.getfield 72, 3) := dk_180 0 72 (dk_at dksX0_keep_0 20 rfl rfl)
theorem dX0_keep_23 : decode cX0_keep 23 = .ok (.iload_n 1, 1) := dk_27 (dk_at dksX0_keep_0 23 rfl rfl)
theorem dX0_keep_24 : decode cX0_keep 24 = .ok (.aaload, 1) := dk_50 (dk_at dksX0_keep_1 0 rfl rfl)
theorem dX0_keep_25 : decode cX0_keep 25 = .ok (.ifnonnull 16, 3) := dk_199 0 16 (dk_at dksX0_keep_1 1 rfl rfl)
theorem dX0_keep_28 : decode cX0_keep 28 = .ok (.aload_n 0, 1) := dk_42 (dk_at dksX0_keep_1 4 rfl rfl)
theorem dX0_keep_29 : decode cX0_keep 29 = .ok (.getfield 72, 3) := dk_180 0 72 (dk_at dksX0_keep_1 5 rfl rfl)
theorem dX0_keep_32 : decode cX0_keep 32 = .ok (.iload_n 1, 1) := dk_27 (dk_at dksX0_keep_1 8 rfl rfl)
theorem dX0_keep_33 : decode cX0_keep 33 = .ok (.new 70, 3) := dk_187 0 70 (dk_at dksX0_keep_1 9 rfl rfl)
theorem dX0_keep_36 : decode cX0_keep 36 = .ok (.dup, 1) := dk_89 (dk_at dksX0_keep_1 12 rfl rfl)
theorem dX0_keep_37 : decode cX0_keep 37 = .ok (.invokespecial 275, 3) := dk_183 1 19 (dk_at dksX0_keep_1 13 rfl rfl)
theorem dX0_keep_40 : decode cX0_keep 40 = .ok (.aastore, 1) := dk_83 (dk_at dksX0_keep_1 16 rfl rfl)
theorem dX0_keep_41 : decode cX0_keep 41 = .ok (.aload_n 0, 1) := dk_42 (dk_at dksX0_keep_1 17 rfl rfl)
theorem dX0_keep_42 : decode cX0_keep 42 = .ok (.getfield 72, 3) := dk_180 0 72 (dk_at dksX0_keep_1 18 rfl rfl)
theorem dX0_keep_45 : decode cX0_keep 45 = .ok (.iload_n 1, 1) := dk_27 (dk_at dksX0_keep_1 21 rfl rfl)
theorem dX0_keep_46 : decode cX0_keep 46 = .ok (.aaload, 1) := dk_50 (dk_at dksX0_keep_1 22 rfl rfl)
theorem dX0_keep_47 : decode cX0_keep 47 = .ok (.getfield 276, 3) := dk_180 1 20 (dk_at dksX0_keep_2 0 rfl rfl)
theorem dX0_keep_50 : decode cX0_keep 50 = .ok (.aload_n 0, 1) := dk_42 (dk_at dksX0_keep_2 3 rfl rfl)
theorem dX0_keep_51 : decode cX0_keep 51 = .ok (.getfield 51, 3) := dk_180 0 51 (dk_at dksX0_keep_2 4 rfl rfl)
theorem dX0_keep_54 : decode cX0_keep 54 = .ok (.invokevirtual 277, 3) := dk_182 1 21 (dk_at dksX0_keep_2 7 rfl rfl)
theorem dX0_keep_57 : decode cX0_keep 57 = .ok (.aload_n 0, 1) := dk_42 (dk_at dksX0_keep_2 10 rfl rfl)
theorem dX0_keep_58 : decode cX0_keep 58 = .ok (.getfield 67, 3) := dk_180 0 67 (dk_at dksX0_keep_2 11 rfl rfl)
theorem dX0_keep_61 : decode cX0_keep 61 = .ok (.iconst 0, 1) := dk_3 (dk_at dksX0_keep_2 14 rfl rfl)
theorem dX0_keep_62 : decode cX0_keep 62 = .ok (.aload_n 0, 1) := dk_42 (dk_at dksX0_keep_2 15 rfl rfl)
theorem dX0_keep_63 : decode cX0_keep 63 = .ok (.getfield 72, 3) := dk_180 0 72 (dk_at dksX0_keep_2 16 rfl rfl)
theorem dX0_keep_66 : decode cX0_keep 66 = .ok (.iload_n 1, 1) := dk_27 (dk_at dksX0_keep_2 19 rfl rfl)
theorem dX0_keep_67 : decode cX0_keep 67 = .ok (.aaload, 1) := dk_50 (dk_at dksX0_keep_2 20 rfl rfl)
theorem dX0_keep_68 : decode cX0_keep 68 = .ok (.getfield 281, 3) := dk_180 1 25 (dk_at dksX0_keep_2 21 rfl rfl)
theorem dX0_keep_71 : decode cX0_keep 71 = .ok (.iconst 0, 1) := dk_3 (dk_at dksX0_keep_3 0 rfl rfl)
theorem dX0_keep_72 : decode cX0_keep 72 = .ok (.sipush 540, 3) := dk_17 2 28 (dk_at dksX0_keep_3 1 rfl rfl)
theorem dX0_keep_75 : decode cX0_keep 75 = .ok (.invokestatic 130, 3) := dk_184 0 130 (dk_at dksX0_keep_3 4 rfl rfl)
theorem dX0_keep_78 : decode cX0_keep 78 = .ok (.aload_n 0, 1) := dk_42 (dk_at dksX0_keep_3 7 rfl rfl)
theorem dX0_keep_79 : decode cX0_keep 79 = .ok (.getfield 72, 3) := dk_180 0 72 (dk_at dksX0_keep_3 8 rfl rfl)
theorem dX0_keep_82 : decode cX0_keep 82 = .ok (.iload_n 1, 1) := dk_27 (dk_at dksX0_keep_3 11 rfl rfl)
theorem dX0_keep_83 : decode cX0_keep 83 = .ok (.aaload, 1) := dk_50 (dk_at dksX0_keep_3 12 rfl rfl)
theorem dX0_keep_84 : decode cX0_keep 84 = .ok (.aload_n 0, 1) := dk_42 (dk_at dksX0_keep_3 13 rfl rfl)
theorem dX0_keep_85 : decode cX0_keep 85 = .ok (.getfield 200, 3) := dk_180 0 200 (dk_at dksX0_keep_3 14 rfl rfl)
theorem dX0_keep_88 : decode cX0_keep 88 = .ok (.putfield 282, 3) := dk_181 1 26 (dk_at dksX0_keep_3 17 rfl rfl)
theorem dX0_keep_91 : decode cX0_keep 91 = .ok (.aload_n 0, 1) := dk_42 (dk_at dksX0_keep_3 20 rfl rfl)
theorem dX0_keep_92 : decode cX0_keep 92 = .ok (.getfield 72, 3) := dk_180 0 72 (dk_at dksX0_keep_3 21 rfl rfl)
theorem dX0_keep_95 : decode cX0_keep 95 = .ok (.iload_n 1, 1) := dk_27 (dk_at dksX0_keep_4 0 rfl rfl)
theorem dX0_keep_96 : decode cX0_keep 96 = .ok (.aaload, 1) := dk_50 (dk_at dksX0_keep_4 1 rfl rfl)
theorem dX0_keep_97 : decode cX0_keep 97 = .ok (.aload_n 0, 1) := dk_42 (dk_at dksX0_keep_4 2 rfl rfl)
theorem dX0_keep_98 : decode cX0_keep 98 = .ok (.getfield 102, 3) := dk_180 0 102 (dk_at dksX0_keep_4 3 rfl rfl)
theorem dX0_keep_101 : decode cX0_keep 101 = .ok (.putfield 283, 3) := dk_181 1 27 (dk_at dksX0_keep_4 6 rfl rfl)
theorem dX0_keep_104 : decode cX0_keep 104 = .ok (.aload_n 0, 1) := dk_42 (dk_at dksX0_keep_4 9 rfl rfl)
theorem dX0_keep_105 : decode cX0_keep 105 = .ok (.getfield 200, 3) := dk_180 0 200 (dk_at dksX0_keep_4 10 rfl rfl)
theorem dX0_keep_108 : decode cX0_keep 108 = .ok (.ireturn, 1) := dk_172 (dk_at dksX0_keep_4 13 rfl rfl)
abbrev cX0_isKept : ByteArray := prog_1_method_44_code
def yX0_isKept : MethodName := ⟨RX0, "isKept", "(I)Z"⟩
def dkwX0_isKept_0 : List UInt8 := [26, 3, 5, 184, 0, 105, 172]
abbrev dktX0_isKept_0 : List UInt8 := dkwX0_isKept_0 ++ []
theorem dksX0_isKept_0 : cX0_isKept.data.toList.drop 0 = dktX0_isKept_0 := by decide +kernel
theorem dX0_isKept_0 : decode cX0_isKept 0 = .ok (.iload_n 0, 1) := dk_26 (dk_at dksX0_isKept_0 0 rfl rfl)
theorem dX0_isKept_1 : decode cX0_isKept 1 = .ok (.iconst 0, 1) := dk_3 (dk_at dksX0_isKept_0 1 rfl rfl)
theorem dX0_isKept_2 : decode cX0_isKept 2 = .ok (.iconst 2, 1) := dk_5 (dk_at dksX0_isKept_0 2 rfl rfl)
theorem dX0_isKept_3 : decode cX0_isKept 3 = .ok (.invokestatic 105, 3) := dk_184 0 105 (dk_at dksX0_isKept_0 3 rfl rfl)
theorem dX0_isKept_6 : decode cX0_isKept 6 = .ok (.ireturn, 1) := dk_172 (dk_at dksX0_isKept_0 6 rfl rfl)
abbrev cX0_on : ByteArray := prog_1_method_46_code
def yX0_on : MethodName := ⟨RX0, "on", "(I)I"⟩
def dkwX0_on_3 : List UInt8 := [180, 1, 26, 181, 0, 200, 42, 42, 180, 0, 72, 27, 50, 180, 1, 27, 181, 0, 102, 42, 180, 0, 200, 172]
abbrev dktX0_on_3 : List UInt8 := dkwX0_on_3 ++ []
def dkwX0_on_2 : List UInt8 := [180, 1, 25, 3, 42, 180, 0, 67, 3, 17, 2, 28, 184, 0, 130, 42, 42, 180, 0, 72, 27, 50]
abbrev dktX0_on_2 : List UInt8 := dkwX0_on_2 ++ dktX0_on_3
def dkwX0_on_1 : List UInt8 := [42, 180, 0, 51, 42, 180, 0, 72, 27, 50, 180, 1, 20, 182, 1, 21, 42, 180, 0, 72, 27, 50]
abbrev dktX0_on_1 : List UInt8 := dkwX0_on_1 ++ dktX0_on_2
def dkwX0_on_0 : List UInt8 := [27, 184, 1, 16, 154, 0, 5, 2, 172, 42, 180, 0, 72, 27, 50, 199, 0, 9, 42, 4, 182, 0, 115, 172]
abbrev dktX0_on_0 : List UInt8 := dkwX0_on_0 ++ dktX0_on_1
theorem dksX0_on_0 : cX0_on.data.toList.drop 0 = dktX0_on_0 := by decide +kernel
theorem dksX0_on_1 : cX0_on.data.toList.drop 24 = dktX0_on_1 := dk_seg dksX0_on_0 24 rfl rfl
theorem dksX0_on_2 : cX0_on.data.toList.drop 46 = dktX0_on_2 := dk_seg dksX0_on_1 22 rfl rfl
theorem dksX0_on_3 : cX0_on.data.toList.drop 68 = dktX0_on_3 := dk_seg dksX0_on_2 22 rfl rfl
theorem dX0_on_0 : decode cX0_on 0 = .ok (.iload_n 1, 1) := dk_27 (dk_at dksX0_on_0 0 rfl rfl)
theorem dX0_on_1 : decode cX0_on 1 = .ok (.invokestatic 272, 3) := dk_184 1 16 (dk_at dksX0_on_0 1 rfl rfl)
theorem dX0_on_4 : decode cX0_on 4 = .ok (.ifCond .ne 5, 3) := dk_154 0 5 (dk_at dksX0_on_0 4 rfl rfl)
theorem dX0_on_7 : decode cX0_on 7 = .ok (.iconst (-1), 1) := dk_2 (dk_at dksX0_on_0 7 rfl rfl)
theorem dX0_on_8 : decode cX0_on 8 = .ok (.ireturn, 1) := dk_172 (dk_at dksX0_on_0 8 rfl rfl)
theorem dX0_on_9 : decode cX0_on 9 = .ok (.aload_n 0, 1) := dk_42 (dk_at dksX0_on_0 9 rfl rfl)
theorem dX0_on_10 : decode cX0_on 10 = .ok (.getfield 72, 3) := dk_180 0 72 (dk_at dksX0_on_0 10 rfl rfl)
theorem dX0_on_13 : decode cX0_on 13 = .ok (.iload_n 1, 1) := dk_27 (dk_at dksX0_on_0 13 rfl rfl)
theorem dX0_on_14 : decode cX0_on 14 = .ok (.aaload, 1) := dk_50 (dk_at dksX0_on_0 14 rfl rfl)
theorem dX0_on_15 : decode cX0_on 15 = .ok (.ifnonnull 9, 3) := dk_199 0 9 (dk_at dksX0_on_0 15 rfl rfl)
theorem dX0_on_18 : decode cX0_on 18 = .ok (.aload_n 0, 1) := dk_42 (dk_at dksX0_on_0 18 rfl rfl)
theorem dX0_on_19 : decode cX0_on 19 = .ok (.iconst 1, 1) := dk_4 (dk_at dksX0_on_0 19 rfl rfl)
theorem dX0_on_20 : decode cX0_on 20 = .ok (.invokevirtual 115, 3) := dk_182 0 115 (dk_at dksX0_on_0 20 rfl rfl)
theorem dX0_on_23 : decode cX0_on 23 = .ok (.ireturn, 1) := dk_172 (dk_at dksX0_on_0 23 rfl rfl)
theorem dX0_on_24 : decode cX0_on 24 = .ok (.aload_n 0, 1) := dk_42 (dk_at dksX0_on_1 0 rfl rfl)
theorem dX0_on_25 : decode cX0_on 25 = .ok (.getfield 51, 3) := dk_180 0 51 (dk_at dksX0_on_1 1 rfl rfl)
theorem dX0_on_28 : decode cX0_on 28 = .ok (.aload_n 0, 1) := dk_42 (dk_at dksX0_on_1 4 rfl rfl)
theorem dX0_on_29 : decode cX0_on 29 = .ok (.getfield 72, 3) := dk_180 0 72 (dk_at dksX0_on_1 5 rfl rfl)
theorem dX0_on_32 : decode cX0_on 32 = .ok (.iload_n 1, 1) := dk_27 (dk_at dksX0_on_1 8 rfl rfl)
theorem dX0_on_33 : decode cX0_on 33 = .ok (.aaload, 1) := dk_50 (dk_at dksX0_on_1 9 rfl rfl)
theorem dX0_on_34 : decode cX0_on 34 = .ok (.getfield 276, 3) := dk_180 1 20 (dk_at dksX0_on_1 10 rfl rfl)
theorem dX0_on_37 : decode cX0_on 37 = .ok (.invokevirtual 277, 3) := dk_182 1 21 (dk_at dksX0_on_1 13 rfl rfl)
theorem dX0_on_40 : decode cX0_on 40 = .ok (.aload_n 0, 1) := dk_42 (dk_at dksX0_on_1 16 rfl rfl)
theorem dX0_on_41 : decode cX0_on 41 = .ok (.getfield 72, 3) := dk_180 0 72 (dk_at dksX0_on_1 17 rfl rfl)
theorem dX0_on_44 : decode cX0_on 44 = .ok (.iload_n 1, 1) := dk_27 (dk_at dksX0_on_1 20 rfl rfl)
theorem dX0_on_45 : decode cX0_on 45 = .ok (.aaload, 1) := dk_50 (dk_at dksX0_on_1 21 rfl rfl)
theorem dX0_on_46 : decode cX0_on 46 = .ok (.getfield 281, 3) := dk_180 1 25 (dk_at dksX0_on_2 0 rfl rfl)
theorem dX0_on_49 : decode cX0_on 49 = .ok (.iconst 0, 1) := dk_3 (dk_at dksX0_on_2 3 rfl rfl)
theorem dX0_on_50 : decode cX0_on 50 = .ok (.aload_n 0, 1) := dk_42 (dk_at dksX0_on_2 4 rfl rfl)
theorem dX0_on_51 : decode cX0_on 51 = .ok (.getfield 67, 3) := dk_180 0 67 (dk_at dksX0_on_2 5 rfl rfl)
theorem dX0_on_54 : decode cX0_on 54 = .ok (.iconst 0, 1) := dk_3 (dk_at dksX0_on_2 8 rfl rfl)
theorem dX0_on_55 : decode cX0_on 55 = .ok (.sipush 540, 3) := dk_17 2 28 (dk_at dksX0_on_2 9 rfl rfl)
theorem dX0_on_58 : decode cX0_on 58 = .ok (.invokestatic 130, 3) := dk_184 0 130 (dk_at dksX0_on_2 12 rfl rfl)
theorem dX0_on_61 : decode cX0_on 61 = .ok (.aload_n 0, 1) := dk_42 (dk_at dksX0_on_2 15 rfl rfl)
theorem dX0_on_62 : decode cX0_on 62 = .ok (.aload_n 0, 1) := dk_42 (dk_at dksX0_on_2 16 rfl rfl)
theorem dX0_on_63 : decode cX0_on 63 = .ok (.getfield 72, 3) := dk_180 0 72 (dk_at dksX0_on_2 17 rfl rfl)
theorem dX0_on_66 : decode cX0_on 66 = .ok (.iload_n 1, 1) := dk_27 (dk_at dksX0_on_2 20 rfl rfl)
theorem dX0_on_67 : decode cX0_on 67 = .ok (.aaload, 1) := dk_50 (dk_at dksX0_on_2 21 rfl rfl)
theorem dX0_on_68 : decode cX0_on 68 = .ok (.getfield 282, 3) := dk_180 1 26 (dk_at dksX0_on_3 0 rfl rfl)
theorem dX0_on_71 : decode cX0_on 71 = .ok (.putfield 200, 3) := dk_181 0 200 (dk_at dksX0_on_3 3 rfl rfl)
theorem dX0_on_74 : decode cX0_on 74 = .ok (.aload_n 0, 1) := dk_42 (dk_at dksX0_on_3 6 rfl rfl)
theorem dX0_on_75 : decode cX0_on 75 = .ok (.aload_n 0, 1) := dk_42 (dk_at dksX0_on_3 7 rfl rfl)
theorem dX0_on_76 : decode cX0_on 76 = .ok (.getfield 72, 3) := dk_180 0 72 (dk_at dksX0_on_3 8 rfl rfl)
theorem dX0_on_79 : decode cX0_on 79 = .ok (.iload_n 1, 1) := dk_27 (dk_at dksX0_on_3 11 rfl rfl)
theorem dX0_on_80 : decode cX0_on 80 = .ok (.aaload, 1) := dk_50 (dk_at dksX0_on_3 12 rfl rfl)
theorem dX0_on_81 : decode cX0_on 81 = .ok (.getfield 283, 3) := dk_180 1 27 (dk_at dksX0_on_3 13 rfl rfl)
theorem dX0_on_84 : decode cX0_on 84 = .ok (.putfield 102, 3) := dk_181 0 102 (dk_at dksX0_on_3 16 rfl rfl)
theorem dX0_on_87 : decode cX0_on 87 = .ok (.aload_n 0, 1) := dk_42 (dk_at dksX0_on_3 19 rfl rfl)
theorem dX0_on_88 : decode cX0_on 88 = .ok (.getfield 200, 3) := dk_180 0 200 (dk_at dksX0_on_3 20 rfl rfl)
theorem dX0_on_91 : decode cX0_on 91 = .ok (.ireturn, 1) := dk_172 (dk_at dksX0_on_3 23 rfl rfl)
abbrev cX0_judge : ByteArray := prog_1_method_49_code
def yX0_judge : MethodName := ⟨RX0, "judge", "(I)I"⟩
def dkwX0_judge_3 : List UInt8 := [182, 0, 123, 172]
abbrev dktX0_judge_3 : List UInt8 := dkwX0_judge_3 ++ []
def dkwX0_judge_2 : List UInt8 := [62, 42, 42, 180, 0, 76, 180, 0, 194, 16, 6, 46, 42, 180, 0, 51, 180, 0, 194, 16, 6, 46, 100, 29]
abbrev dktX0_judge_2 : List UInt8 := dkwX0_judge_2 ++ dktX0_judge_3
def dkwX0_judge_1 : List UInt8 := [180, 0, 76, 42, 180, 0, 51, 182, 1, 21, 42, 42, 180, 0, 76, 42, 180, 0, 32, 27, 50, 182, 1, 31]
abbrev dktX0_judge_1 : List UInt8 := dkwX0_judge_1 ++ dktX0_judge_2
def dkwX0_judge_0 : List UInt8 := [27, 184, 0, 109, 154, 0, 5, 2, 172, 42, 27, 182, 1, 28, 61, 28, 156, 0, 5, 28, 172, 42]
abbrev dktX0_judge_0 : List UInt8 := dkwX0_judge_0 ++ dktX0_judge_1
theorem dksX0_judge_0 : cX0_judge.data.toList.drop 0 = dktX0_judge_0 := by decide +kernel
theorem dksX0_judge_1 : cX0_judge.data.toList.drop 22 = dktX0_judge_1 := dk_seg dksX0_judge_0 22 rfl rfl
theorem dksX0_judge_2 : cX0_judge.data.toList.drop 46 = dktX0_judge_2 := dk_seg dksX0_judge_1 24 rfl rfl
theorem dksX0_judge_3 : cX0_judge.data.toList.drop 70 = dktX0_judge_3 := dk_seg dksX0_judge_2 24 rfl rfl
theorem dX0_judge_0 : decode cX0_judge 0 = .ok (.iload_n 1, 1) := dk_27 (dk_at dksX0_judge_0 0 rfl rfl)
theorem dX0_judge_1 : decode cX0_judge 1 = .ok (.invokestatic 109, 3) := dk_184 0 109 (dk_at dksX0_judge_0 1 rfl rfl)
theorem dX0_judge_4 : decode cX0_judge 4 = .ok (.ifCond .ne 5, 3) := dk_154 0 5 (dk_at dksX0_judge_0 4 rfl rfl)
theorem dX0_judge_7 : decode cX0_judge 7 = .ok (.iconst (-1), 1) := dk_2 (dk_at dksX0_judge_0 7 rfl rfl)
theorem dX0_judge_8 : decode cX0_judge 8 = .ok (.ireturn, 1) := dk_172 (dk_at dksX0_judge_0 8 rfl rfl)
theorem dX0_judge_9 : decode cX0_judge 9 = .ok (.aload_n 0, 1) := dk_42 (dk_at dksX0_judge_0 9 rfl rfl)
theorem dX0_judge_10 : decode cX0_judge 10 = .ok (.iload_n 1, 1) := dk_27 (dk_at dksX0_judge_0 10 rfl rfl)
theorem dX0_judge_11 : decode cX0_judge 11 = .ok (.invokevirtual 284, 3) := dk_182 1 28 (dk_at dksX0_judge_0 11 rfl rfl)
theorem dX0_judge_14 : decode cX0_judge 14 = .ok (.istore_n 2, 1) := dk_61 (dk_at dksX0_judge_0 14 rfl rfl)
theorem dX0_judge_15 : decode cX0_judge 15 = .ok (.iload_n 2, 1) := dk_28 (dk_at dksX0_judge_0 15 rfl rfl)
theorem dX0_judge_16 : decode cX0_judge 16 = .ok (.ifCond .ge 5, 3) := dk_156 0 5 (dk_at dksX0_judge_0 16 rfl rfl)
theorem dX0_judge_19 : decode cX0_judge 19 = .ok (.iload_n 2, 1) := dk_28 (dk_at dksX0_judge_0 19 rfl rfl)
theorem dX0_judge_20 : decode cX0_judge 20 = .ok (.ireturn, 1) := dk_172 (dk_at dksX0_judge_0 20 rfl rfl)
theorem dX0_judge_21 : decode cX0_judge 21 = .ok (.aload_n 0, 1) := dk_42 (dk_at dksX0_judge_0 21 rfl rfl)
theorem dX0_judge_22 : decode cX0_judge 22 = .ok (.getfield 76, 3) := dk_180 0 76 (dk_at dksX0_judge_1 0 rfl rfl)
theorem dX0_judge_25 : decode cX0_judge 25 = .ok (.aload_n 0, 1) := dk_42 (dk_at dksX0_judge_1 3 rfl rfl)
theorem dX0_judge_26 : decode cX0_judge 26 = .ok (.getfield 51, 3) := dk_180 0 51 (dk_at dksX0_judge_1 4 rfl rfl)
theorem dX0_judge_29 : decode cX0_judge 29 = .ok (.invokevirtual 277, 3) := dk_182 1 21 (dk_at dksX0_judge_1 7 rfl rfl)
theorem dX0_judge_32 : decode cX0_judge 32 = .ok (.aload_n 0, 1) := dk_42 (dk_at dksX0_judge_1 10 rfl rfl)
theorem dX0_judge_33 : decode cX0_judge 33 = .ok (.aload_n 0, 1) := dk_42 (dk_at dksX0_judge_1 11 rfl rfl)
theorem dX0_judge_34 : decode cX0_judge 34 = .ok (.getfield 76, 3) := dk_180 0 76 (dk_at dksX0_judge_1 12 rfl rfl)
theorem dX0_judge_37 : decode cX0_judge 37 = .ok (.aload_n 0, 1) := dk_42 (dk_at dksX0_judge_1 15 rfl rfl)
theorem dX0_judge_38 : decode cX0_judge 38 = .ok (.getfield 32, 3) := dk_180 0 32 (dk_at dksX0_judge_1 16 rfl rfl)
theorem dX0_judge_41 : decode cX0_judge 41 = .ok (.iload_n 1, 1) := dk_27 (dk_at dksX0_judge_1 19 rfl rfl)
theorem dX0_judge_42 : decode cX0_judge 42 = .ok (.aaload, 1) := dk_50 (dk_at dksX0_judge_1 20 rfl rfl)
theorem dX0_judge_43 : decode cX0_judge 43 = .ok (.invokevirtual 287, 3) := dk_182 1 31 (dk_at dksX0_judge_1 21 rfl rfl)
theorem dX0_judge_46 : decode cX0_judge 46 = .ok (.istore_n 3, 1) := dk_62 (dk_at dksX0_judge_2 0 rfl rfl)
theorem dX0_judge_47 : decode cX0_judge 47 = .ok (.aload_n 0, 1) := dk_42 (dk_at dksX0_judge_2 1 rfl rfl)
theorem dX0_judge_48 : decode cX0_judge 48 = .ok (.aload_n 0, 1) := dk_42 (dk_at dksX0_judge_2 2 rfl rfl)
theorem dX0_judge_49 : decode cX0_judge 49 = .ok (.getfield 76, 3) := dk_180 0 76 (dk_at dksX0_judge_2 3 rfl rfl)
theorem dX0_judge_52 : decode cX0_judge 52 = .ok (.getfield 194, 3) := dk_180 0 194 (dk_at dksX0_judge_2 6 rfl rfl)
theorem dX0_judge_55 : decode cX0_judge 55 = .ok (.bipush 6, 2) := dk_16 6 (dk_at dksX0_judge_2 9 rfl rfl)
theorem dX0_judge_57 : decode cX0_judge 57 = .ok (.iaload, 1) := dk_46 (dk_at dksX0_judge_2 11 rfl rfl)
theorem dX0_judge_58 : decode cX0_judge 58 = .ok (.aload_n 0, 1) := dk_42 (dk_at dksX0_judge_2 12 rfl rfl)
theorem dX0_judge_59 : decode cX0_judge 59 = .ok (.getfield 51, 3) := dk_180 0 51 (dk_at dksX0_judge_2 13 rfl rfl)
theorem dX0_judge_62 : decode cX0_judge 62 = .ok (.getfield 194, 3) := dk_180 0 194 (dk_at dksX0_judge_2 16 rfl rfl)
theorem dX0_judge_65 : decode cX0_judge 65 = .ok (.bipush 6, 2) := dk_16 6 (dk_at dksX0_judge_2 19 rfl rfl)
theorem dX0_judge_67 : decode cX0_judge 67 = .ok (.iaload, 1) := dk_46 (dk_at dksX0_judge_2 21 rfl rfl)
theorem dX0_judge_68 : decode cX0_judge 68 = .ok (.isub, 1) := dk_100 (dk_at dksX0_judge_2 22 rfl rfl)
theorem dX0_judge_69 : decode cX0_judge 69 = .ok (.iload_n 3, 1) := dk_29 (dk_at dksX0_judge_2 23 rfl rfl)
theorem dX0_judge_70 : decode cX0_judge 70 = .ok (.invokevirtual 123, 3) := dk_182 0 123 (dk_at dksX0_judge_3 0 rfl rfl)
theorem dX0_judge_73 : decode cX0_judge 73 = .ok (.ireturn, 1) := dk_172 (dk_at dksX0_judge_3 3 rfl rfl)
abbrev cX0_askedPiece : ByteArray := prog_1_method_47_code
def yX0_askedPiece : MethodName := ⟨RX0, "askedPiece", "(I)I"⟩
def dkwX0_askedPiece_3 : List UInt8 := [172, 132, 4, 1, 167, 255, 226, 3, 172]
abbrev dktX0_askedPiece_3 : List UInt8 := dkwX0_askedPiece_3 ++ []
def dkwX0_askedPiece_2 : List UInt8 := [29, 162, 0, 30, 44, 21, 4, 46, 54, 5, 42, 21, 5, 182, 0, 216, 154, 0, 9, 42, 6, 182, 0, 115]
abbrev dktX0_askedPiece_2 : List UInt8 := dkwX0_askedPiece_2 ++ dktX0_askedPiece_3
def dkwX0_askedPiece_1 : List UInt8 := [164, 0, 9, 42, 8, 182, 0, 115, 172, 42, 180, 0, 32, 27, 50, 77, 44, 190, 62, 3, 54, 4, 21, 4]
abbrev dktX0_askedPiece_1 : List UInt8 := dkwX0_askedPiece_1 ++ dktX0_askedPiece_2
def dkwX0_askedPiece_0 : List UInt8 := [42, 180, 0, 32, 27, 50, 199, 0, 9, 42, 4, 182, 0, 115, 172, 42, 180, 0, 32, 27, 50, 190, 16, 12]
abbrev dktX0_askedPiece_0 : List UInt8 := dkwX0_askedPiece_0 ++ dktX0_askedPiece_1
theorem dksX0_askedPiece_0 : cX0_askedPiece.data.toList.drop 0 = dktX0_askedPiece_0 := by decide +kernel
theorem dksX0_askedPiece_1 : cX0_askedPiece.data.toList.drop 24 = dktX0_askedPiece_1 := dk_seg dksX0_askedPiece_0 24 rfl rfl
theorem dksX0_askedPiece_2 : cX0_askedPiece.data.toList.drop 48 = dktX0_askedPiece_2 := dk_seg dksX0_askedPiece_1 24 rfl rfl
theorem dksX0_askedPiece_3 : cX0_askedPiece.data.toList.drop 72 = dktX0_askedPiece_3 := dk_seg dksX0_askedPiece_2 24 rfl rfl
theorem dX0_askedPiece_0 : decode cX0_askedPiece 0 = .ok (.aload_n 0, 1) := dk_42 (dk_at dksX0_askedPiece_0 0 rfl rfl)
theorem dX0_askedPiece_1 : decode cX0_askedPiece 1 = .ok (.getfield 32, 3) := dk_180 0 32 (dk_at dksX0_askedPiece_0 1 rfl rfl)
theorem dX0_askedPiece_4 : decode cX0_askedPiece 4 = .ok (.iload_n 1, 1) := dk_27 (dk_at dksX0_askedPiece_0 4 rfl rfl)
theorem dX0_askedPiece_5 : decode cX0_askedPiece 5 = .ok (.aaload, 1) := dk_50 (dk_at dksX0_askedPiece_0 5 rfl rfl)
theorem dX0_askedPiece_6 : decode cX0_askedPiece 6 = .ok (.ifnonnull 9, 3) := dk_199 0 9 (dk_at dksX0_askedPiece_0 6 rfl rfl)
theorem dX0_askedPiece_9 : decode cX0_askedPiece 9 = .ok (.aload_n 0, 1) := dk_42 (dk_at dksX0_askedPiece_0 9 rfl rfl)
theorem dX0_askedPiece_10 : decode cX0_askedPiece 10 = .ok (.iconst 1, 1) := dk_4 (dk_at dksX0_askedPiece_0 10 rfl rfl)
theorem dX0_askedPiece_11 : decode cX0_askedPiece 11 = .ok (.invokevirtual 115, 3) := dk_182 0 115 (dk_at dksX0_askedPiece_0 11 rfl rfl)
theorem dX0_askedPiece_14 : decode cX0_askedPiece 14 = .ok (.ireturn, 1) := dk_172 (dk_at dksX0_askedPiece_0 14 rfl rfl)
theorem dX0_askedPiece_15 : decode cX0_askedPiece 15 = .ok (.aload_n 0, 1) := dk_42 (dk_at dksX0_askedPiece_0 15 rfl rfl)
theorem dX0_askedPiece_16 : decode cX0_askedPiece 16 = .ok (.getfield 32, 3) := dk_180 0 32 (dk_at dksX0_askedPiece_0 16 rfl rfl)
theorem dX0_askedPiece_19 : decode cX0_askedPiece 19 = .ok (.iload_n 1, 1) := dk_27 (dk_at dksX0_askedPiece_0 19 rfl rfl)
theorem dX0_askedPiece_20 : decode cX0_askedPiece 20 = .ok (.aaload, 1) := dk_50 (dk_at dksX0_askedPiece_0 20 rfl rfl)
theorem dX0_askedPiece_21 : decode cX0_askedPiece 21 = .ok (.arraylength, 1) := dk_190 (dk_at dksX0_askedPiece_0 21 rfl rfl)
theorem dX0_askedPiece_22 : decode cX0_askedPiece 22 = .ok (.bipush 12, 2) := dk_16 12 (dk_at dksX0_askedPiece_0 22 rfl rfl)
theorem dX0_askedPiece_24 : decode cX0_askedPiece 24 = .ok (.if_icmp .le 9, 3) := dk_164 0 9 (dk_at dksX0_askedPiece_1 0 rfl rfl)
theorem dX0_askedPiece_27 : decode cX0_askedPiece 27 = .ok (.aload_n 0, 1) := dk_42 (dk_at dksX0_askedPiece_1 3 rfl rfl)
theorem dX0_askedPiece_28 : decode cX0_askedPiece 28 = .ok (.iconst 5, 1) := dk_8 (dk_at dksX0_askedPiece_1 4 rfl rfl)
theorem dX0_askedPiece_29 : decode cX0_askedPiece 29 = .ok (.invokevirtual 115, 3) := dk_182 0 115 (dk_at dksX0_askedPiece_1 5 rfl rfl)
theorem dX0_askedPiece_32 : decode cX0_askedPiece 32 = .ok (.ireturn, 1) := dk_172 (dk_at dksX0_askedPiece_1 8 rfl rfl)
theorem dX0_askedPiece_33 : decode cX0_askedPiece 33 = .ok (.aload_n 0, 1) := dk_42 (dk_at dksX0_askedPiece_1 9 rfl rfl)
theorem dX0_askedPiece_34 : decode cX0_askedPiece 34 = .ok (.getfield 32, 3) := dk_180 0 32 (dk_at dksX0_askedPiece_1 10 rfl rfl)
theorem dX0_askedPiece_37 : decode cX0_askedPiece 37 = .ok (.iload_n 1, 1) := dk_27 (dk_at dksX0_askedPiece_1 13 rfl rfl)
theorem dX0_askedPiece_38 : decode cX0_askedPiece 38 = .ok (.aaload, 1) := dk_50 (dk_at dksX0_askedPiece_1 14 rfl rfl)
theorem dX0_askedPiece_39 : decode cX0_askedPiece 39 = .ok (.astore_n 2, 1) := dk_77 (dk_at dksX0_askedPiece_1 15 rfl rfl)
theorem dX0_askedPiece_40 : decode cX0_askedPiece 40 = .ok (.aload_n 2, 1) := dk_44 (dk_at dksX0_askedPiece_1 16 rfl rfl)
theorem dX0_askedPiece_41 : decode cX0_askedPiece 41 = .ok (.arraylength, 1) := dk_190 (dk_at dksX0_askedPiece_1 17 rfl rfl)
theorem dX0_askedPiece_42 : decode cX0_askedPiece 42 = .ok (.istore_n 3, 1) := dk_62 (dk_at dksX0_askedPiece_1 18 rfl rfl)
theorem dX0_askedPiece_43 : decode cX0_askedPiece 43 = .ok (.iconst 0, 1) := dk_3 (dk_at dksX0_askedPiece_1 19 rfl rfl)
theorem dX0_askedPiece_44 : decode cX0_askedPiece 44 = .ok (.istore 4, 2) := dk_54 4 (dk_at dksX0_askedPiece_1 20 rfl rfl)
theorem dX0_askedPiece_46 : decode cX0_askedPiece 46 = .ok (.iload 4, 2) := dk_21 4 (dk_at dksX0_askedPiece_1 22 rfl rfl)
theorem dX0_askedPiece_48 : decode cX0_askedPiece 48 = .ok (.iload_n 3, 1) := dk_29 (dk_at dksX0_askedPiece_2 0 rfl rfl)
theorem dX0_askedPiece_49 : decode cX0_askedPiece 49 = .ok (.if_icmp .ge 30, 3) := dk_162 0 30 (dk_at dksX0_askedPiece_2 1 rfl rfl)
theorem dX0_askedPiece_52 : decode cX0_askedPiece 52 = .ok (.aload_n 2, 1) := dk_44 (dk_at dksX0_askedPiece_2 4 rfl rfl)
theorem dX0_askedPiece_53 : decode cX0_askedPiece 53 = .ok (.iload 4, 2) := dk_21 4 (dk_at dksX0_askedPiece_2 5 rfl rfl)
theorem dX0_askedPiece_55 : decode cX0_askedPiece 55 = .ok (.iaload, 1) := dk_46 (dk_at dksX0_askedPiece_2 7 rfl rfl)
theorem dX0_askedPiece_56 : decode cX0_askedPiece 56 = .ok (.istore 5, 2) := dk_54 5 (dk_at dksX0_askedPiece_2 8 rfl rfl)
theorem dX0_askedPiece_58 : decode cX0_askedPiece 58 = .ok (.aload_n 0, 1) := dk_42 (dk_at dksX0_askedPiece_2 10 rfl rfl)
theorem dX0_askedPiece_59 : decode cX0_askedPiece 59 = .ok (.iload 5, 2) := dk_21 5 (dk_at dksX0_askedPiece_2 11 rfl rfl)
theorem dX0_askedPiece_61 : decode cX0_askedPiece 61 = .ok (.invokevirtual 216, 3) := dk_182 0 216 (dk_at dksX0_askedPiece_2 13 rfl rfl)
theorem dX0_askedPiece_64 : decode cX0_askedPiece 64 = .ok (.ifCond .ne 9, 3) := dk_154 0 9 (dk_at dksX0_askedPiece_2 16 rfl rfl)
theorem dX0_askedPiece_67 : decode cX0_askedPiece 67 = .ok (.aload_n 0, 1) := dk_42 (dk_at dksX0_askedPiece_2 19 rfl rfl)
theorem dX0_askedPiece_68 : decode cX0_askedPiece 68 = .ok (.iconst 3, 1) := dk_6 (dk_at dksX0_askedPiece_2 20 rfl rfl)
theorem dX0_askedPiece_69 : decode cX0_askedPiece 69 = .ok (.invokevirtual 115, 3) := dk_182 0 115 (dk_at dksX0_askedPiece_2 21 rfl rfl)
theorem dX0_askedPiece_72 : decode cX0_askedPiece 72 = .ok (.ireturn, 1) := dk_172 (dk_at dksX0_askedPiece_3 0 rfl rfl)
theorem dX0_askedPiece_73 : decode cX0_askedPiece 73 = .ok (.iinc 4 1, 3) := dk_132 4 1 (dk_at dksX0_askedPiece_3 1 rfl rfl)
theorem dX0_askedPiece_76 : decode cX0_askedPiece 76 = .ok (.goto (-30), 3) := dk_167 255 226 (dk_at dksX0_askedPiece_3 4 rfl rfl)
theorem dX0_askedPiece_79 : decode cX0_askedPiece 79 = .ok (.iconst 0, 1) := dk_3 (dk_at dksX0_askedPiece_3 7 rfl rfl)
theorem dX0_askedPiece_80 : decode cX0_askedPiece 80 = .ok (.ireturn, 1) := dk_172 (dk_at dksX0_askedPiece_3 8 rfl rfl)
abbrev cX0_playOn : ByteArray := prog_1_method_48_code
def yX0_playOn : MethodName := ⟨RX0, "playOn", "(LSandPiano$Sands;[I)I"⟩
def dkwX0_playOn_1 : List UInt8 := [43, 44, 29, 46, 182, 0, 251, 132, 3, 1, 167, 255, 224, 29, 172]
abbrev dktX0_playOn_1 : List UInt8 := dkwX0_playOn_1 ++ []
def dkwX0_playOn_0 : List UInt8 := [3, 62, 29, 44, 190, 162, 0, 32, 42, 180, 0, 44, 44, 29, 46, 50, 43, 182, 0, 212, 153, 0, 17, 42]
abbrev dktX0_playOn_0 : List UInt8 := dkwX0_playOn_0 ++ dktX0_playOn_1
theorem dksX0_playOn_0 : cX0_playOn.data.toList.drop 0 = dktX0_playOn_0 := by decide +kernel
theorem dksX0_playOn_1 : cX0_playOn.data.toList.drop 24 = dktX0_playOn_1 := dk_seg dksX0_playOn_0 24 rfl rfl
theorem dX0_playOn_0 : decode cX0_playOn 0 = .ok (.iconst 0, 1) := dk_3 (dk_at dksX0_playOn_0 0 rfl rfl)
theorem dX0_playOn_1 : decode cX0_playOn 1 = .ok (.istore_n 3, 1) := dk_62 (dk_at dksX0_playOn_0 1 rfl rfl)
theorem dX0_playOn_2 : decode cX0_playOn 2 = .ok (.iload_n 3, 1) := dk_29 (dk_at dksX0_playOn_0 2 rfl rfl)
theorem dX0_playOn_3 : decode cX0_playOn 3 = .ok (.aload_n 2, 1) := dk_44 (dk_at dksX0_playOn_0 3 rfl rfl)
theorem dX0_playOn_4 : decode cX0_playOn 4 = .ok (.arraylength, 1) := dk_190 (dk_at dksX0_playOn_0 4 rfl rfl)
theorem dX0_playOn_5 : decode cX0_playOn 5 = .ok (.if_icmp .ge 32, 3) := dk_162 0 32 (dk_at dksX0_playOn_0 5 rfl rfl)
theorem dX0_playOn_8 : decode cX0_playOn 8 = .ok (.aload_n 0, 1) := dk_42 (dk_at dksX0_playOn_0 8 rfl rfl)
theorem dX0_playOn_9 : decode cX0_playOn 9 = .ok (.getfield 44, 3) := dk_180 0 44 (dk_at dksX0_playOn_0 9 rfl rfl)
theorem dX0_playOn_12 : decode cX0_playOn 12 = .ok (.aload_n 2, 1) := dk_44 (dk_at dksX0_playOn_0 12 rfl rfl)
theorem dX0_playOn_13 : decode cX0_playOn 13 = .ok (.iload_n 3, 1) := dk_29 (dk_at dksX0_playOn_0 13 rfl rfl)
theorem dX0_playOn_14 : decode cX0_playOn 14 = .ok (.iaload, 1) := dk_46 (dk_at dksX0_playOn_0 14 rfl rfl)
theorem dX0_playOn_15 : decode cX0_playOn 15 = .ok (.aaload, 1) := dk_50 (dk_at dksX0_playOn_0 15 rfl rfl)
theorem dX0_playOn_16 : decode cX0_playOn 16 = .ok (.aload_n 1, 1) := dk_43 (dk_at dksX0_playOn_0 16 rfl rfl)
theorem dX0_playOn_17 : decode cX0_playOn 17 = .ok (.invokevirtual 212, 3) := dk_182 0 212 (dk_at dksX0_playOn_0 17 rfl rfl)
theorem dX0_playOn_20 : decode cX0_playOn 20 = .ok (.ifCond .eq 17, 3) := dk_153 0 17 (dk_at dksX0_playOn_0 20 rfl rfl)
theorem dX0_playOn_23 : decode cX0_playOn 23 = .ok (.aload_n 0, 1) := dk_42 (dk_at dksX0_playOn_0 23 rfl rfl)
theorem dX0_playOn_24 : decode cX0_playOn 24 = .ok (.aload_n 1, 1) := dk_43 (dk_at dksX0_playOn_1 0 rfl rfl)
theorem dX0_playOn_25 : decode cX0_playOn 25 = .ok (.aload_n 2, 1) := dk_44 (dk_at dksX0_playOn_1 1 rfl rfl)
theorem dX0_playOn_26 : decode cX0_playOn 26 = .ok (.iload_n 3, 1) := dk_29 (dk_at dksX0_playOn_1 2 rfl rfl)
theorem dX0_playOn_27 : decode cX0_playOn 27 = .ok (.iaload, 1) := dk_46 (dk_at dksX0_playOn_1 3 rfl rfl)
theorem dX0_playOn_28 : decode cX0_playOn 28 = .ok (.invokevirtual 251, 3) := dk_182 0 251 (dk_at dksX0_playOn_1 4 rfl rfl)
theorem dX0_playOn_31 : decode cX0_playOn 31 = .ok (.iinc 3 1, 3) := dk_132 3 1 (dk_at dksX0_playOn_1 7 rfl rfl)
theorem dX0_playOn_34 : decode cX0_playOn 34 = .ok (.goto (-32), 3) := dk_167 255 224 (dk_at dksX0_playOn_1 10 rfl rfl)
theorem dX0_playOn_37 : decode cX0_playOn 37 = .ok (.iload_n 3, 1) := dk_29 (dk_at dksX0_playOn_1 13 rfl rfl)
theorem dX0_playOn_38 : decode cX0_playOn 38 = .ok (.ireturn, 1) := dk_172 (dk_at dksX0_playOn_1 14 rfl rfl)
abbrev cX0_earns : ByteArray := prog_1_method_50_code
def yX0_earns : MethodName := ⟨RX0, "earns", "(I)I"⟩
def dkwX0_earns_2 : List UInt8 := [87, 42, 180, 0, 76, 180, 0, 194, 16, 8, 46, 42, 180, 0, 51, 180, 0, 194, 16, 8, 46, 100, 172]
abbrev dktX0_earns_2 : List UInt8 := dkwX0_earns_2 ++ []
def dkwX0_earns_1 : List UInt8 := [180, 0, 76, 42, 180, 0, 51, 182, 1, 21, 42, 42, 180, 0, 76, 42, 180, 0, 32, 27, 50, 182, 1, 31]
abbrev dktX0_earns_1 : List UInt8 := dkwX0_earns_1 ++ dktX0_earns_2
def dkwX0_earns_0 : List UInt8 := [27, 184, 0, 109, 154, 0, 5, 2, 172, 42, 27, 182, 1, 28, 61, 28, 156, 0, 5, 28, 172, 42]
abbrev dktX0_earns_0 : List UInt8 := dkwX0_earns_0 ++ dktX0_earns_1
theorem dksX0_earns_0 : cX0_earns.data.toList.drop 0 = dktX0_earns_0 := by decide +kernel
theorem dksX0_earns_1 : cX0_earns.data.toList.drop 22 = dktX0_earns_1 := dk_seg dksX0_earns_0 22 rfl rfl
theorem dksX0_earns_2 : cX0_earns.data.toList.drop 46 = dktX0_earns_2 := dk_seg dksX0_earns_1 24 rfl rfl
theorem dX0_earns_0 : decode cX0_earns 0 = .ok (.iload_n 1, 1) := dk_27 (dk_at dksX0_earns_0 0 rfl rfl)
theorem dX0_earns_1 : decode cX0_earns 1 = .ok (.invokestatic 109, 3) := dk_184 0 109 (dk_at dksX0_earns_0 1 rfl rfl)
theorem dX0_earns_4 : decode cX0_earns 4 = .ok (.ifCond .ne 5, 3) := dk_154 0 5 (dk_at dksX0_earns_0 4 rfl rfl)
theorem dX0_earns_7 : decode cX0_earns 7 = .ok (.iconst (-1), 1) := dk_2 (dk_at dksX0_earns_0 7 rfl rfl)
theorem dX0_earns_8 : decode cX0_earns 8 = .ok (.ireturn, 1) := dk_172 (dk_at dksX0_earns_0 8 rfl rfl)
theorem dX0_earns_9 : decode cX0_earns 9 = .ok (.aload_n 0, 1) := dk_42 (dk_at dksX0_earns_0 9 rfl rfl)
theorem dX0_earns_10 : decode cX0_earns 10 = .ok (.iload_n 1, 1) := dk_27 (dk_at dksX0_earns_0 10 rfl rfl)
theorem dX0_earns_11 : decode cX0_earns 11 = .ok (.invokevirtual 284, 3) := dk_182 1 28 (dk_at dksX0_earns_0 11 rfl rfl)
theorem dX0_earns_14 : decode cX0_earns 14 = .ok (.istore_n 2, 1) := dk_61 (dk_at dksX0_earns_0 14 rfl rfl)
theorem dX0_earns_15 : decode cX0_earns 15 = .ok (.iload_n 2, 1) := dk_28 (dk_at dksX0_earns_0 15 rfl rfl)
theorem dX0_earns_16 : decode cX0_earns 16 = .ok (.ifCond .ge 5, 3) := dk_156 0 5 (dk_at dksX0_earns_0 16 rfl rfl)
theorem dX0_earns_19 : decode cX0_earns 19 = .ok (.iload_n 2, 1) := dk_28 (dk_at dksX0_earns_0 19 rfl rfl)
theorem dX0_earns_20 : decode cX0_earns 20 = .ok (.ireturn, 1) := dk_172 (dk_at dksX0_earns_0 20 rfl rfl)
theorem dX0_earns_21 : decode cX0_earns 21 = .ok (.aload_n 0, 1) := dk_42 (dk_at dksX0_earns_0 21 rfl rfl)
theorem dX0_earns_22 : decode cX0_earns 22 = .ok (.getfield 76, 3) := dk_180 0 76 (dk_at dksX0_earns_1 0 rfl rfl)
theorem dX0_earns_25 : decode cX0_earns 25 = .ok (.aload_n 0, 1) := dk_42 (dk_at dksX0_earns_1 3 rfl rfl)
theorem dX0_earns_26 : decode cX0_earns 26 = .ok (.getfield 51, 3) := dk_180 0 51 (dk_at dksX0_earns_1 4 rfl rfl)
theorem dX0_earns_29 : decode cX0_earns 29 = .ok (.invokevirtual 277, 3) := dk_182 1 21 (dk_at dksX0_earns_1 7 rfl rfl)
theorem dX0_earns_32 : decode cX0_earns 32 = .ok (.aload_n 0, 1) := dk_42 (dk_at dksX0_earns_1 10 rfl rfl)
theorem dX0_earns_33 : decode cX0_earns 33 = .ok (.aload_n 0, 1) := dk_42 (dk_at dksX0_earns_1 11 rfl rfl)
theorem dX0_earns_34 : decode cX0_earns 34 = .ok (.getfield 76, 3) := dk_180 0 76 (dk_at dksX0_earns_1 12 rfl rfl)
theorem dX0_earns_37 : decode cX0_earns 37 = .ok (.aload_n 0, 1) := dk_42 (dk_at dksX0_earns_1 15 rfl rfl)
theorem dX0_earns_38 : decode cX0_earns 38 = .ok (.getfield 32, 3) := dk_180 0 32 (dk_at dksX0_earns_1 16 rfl rfl)
theorem dX0_earns_41 : decode cX0_earns 41 = .ok (.iload_n 1, 1) := dk_27 (dk_at dksX0_earns_1 19 rfl rfl)
theorem dX0_earns_42 : decode cX0_earns 42 = .ok (.aaload, 1) := dk_50 (dk_at dksX0_earns_1 20 rfl rfl)
theorem dX0_earns_43 : decode cX0_earns 43 = .ok (.invokevirtual 287, 3) := dk_182 1 31 (dk_at dksX0_earns_1 21 rfl rfl)
theorem dX0_earns_46 : decode cX0_earns 46 = .ok (.pop, 1) := dk_87 (dk_at dksX0_earns_2 0 rfl rfl)
theorem dX0_earns_47 : decode cX0_earns 47 = .ok (.aload_n 0, 1) := dk_42 (dk_at dksX0_earns_2 1 rfl rfl)
theorem dX0_earns_48 : decode cX0_earns 48 = .ok (.getfield 76, 3) := dk_180 0 76 (dk_at dksX0_earns_2 2 rfl rfl)
theorem dX0_earns_51 : decode cX0_earns 51 = .ok (.getfield 194, 3) := dk_180 0 194 (dk_at dksX0_earns_2 5 rfl rfl)
theorem dX0_earns_54 : decode cX0_earns 54 = .ok (.bipush 8, 2) := dk_16 8 (dk_at dksX0_earns_2 8 rfl rfl)
theorem dX0_earns_56 : decode cX0_earns 56 = .ok (.iaload, 1) := dk_46 (dk_at dksX0_earns_2 10 rfl rfl)
theorem dX0_earns_57 : decode cX0_earns 57 = .ok (.aload_n 0, 1) := dk_42 (dk_at dksX0_earns_2 11 rfl rfl)
theorem dX0_earns_58 : decode cX0_earns 58 = .ok (.getfield 51, 3) := dk_180 0 51 (dk_at dksX0_earns_2 12 rfl rfl)
theorem dX0_earns_61 : decode cX0_earns 61 = .ok (.getfield 194, 3) := dk_180 0 194 (dk_at dksX0_earns_2 15 rfl rfl)
theorem dX0_earns_64 : decode cX0_earns 64 = .ok (.bipush 8, 2) := dk_16 8 (dk_at dksX0_earns_2 18 rfl rfl)
theorem dX0_earns_66 : decode cX0_earns 66 = .ok (.iaload, 1) := dk_46 (dk_at dksX0_earns_2 20 rfl rfl)
theorem dX0_earns_67 : decode cX0_earns 67 = .ok (.isub, 1) := dk_100 (dk_at dksX0_earns_2 21 rfl rfl)
theorem dX0_earns_68 : decode cX0_earns 68 = .ok (.ireturn, 1) := dk_172 (dk_at dksX0_earns_2 22 rfl rfl)
abbrev cX0_digs : ByteArray := prog_1_method_53_code
def yX0_digs : MethodName := ⟨RX0, "digs", "(II)I"⟩
def dkwX0_digs_3 : List UInt8 := [16, 247, 172]
abbrev dktX0_digs_3 : List UInt8 := dkwX0_digs_3 ++ []
def dkwX0_digs_2 : List UInt8 := [182, 1, 35, 153, 0, 15, 42, 28, 42, 180, 0, 82, 21, 4, 182, 1, 39, 172, 132, 4, 1, 167, 255, 219]
abbrev dktX0_digs_2 : List UInt8 := dkwX0_digs_2 ++ dktX0_digs_3
def dkwX0_digs_1 : List UInt8 := [156, 0, 5, 29, 172, 3, 54, 4, 21, 4, 7, 163, 0, 37, 42, 42, 180, 0, 32, 27, 50, 3, 21, 4]
abbrev dktX0_digs_1 : List UInt8 := dkwX0_digs_1 ++ dktX0_digs_2
def dkwX0_digs_0 : List UInt8 := [27, 184, 0, 109, 153, 0, 10, 28, 184, 0, 109, 154, 0, 5, 2, 172, 42, 27, 182, 1, 28, 62, 29]
abbrev dktX0_digs_0 : List UInt8 := dkwX0_digs_0 ++ dktX0_digs_1
theorem dksX0_digs_0 : cX0_digs.data.toList.drop 0 = dktX0_digs_0 := by decide +kernel
theorem dksX0_digs_1 : cX0_digs.data.toList.drop 23 = dktX0_digs_1 := dk_seg dksX0_digs_0 23 rfl rfl
theorem dksX0_digs_2 : cX0_digs.data.toList.drop 47 = dktX0_digs_2 := dk_seg dksX0_digs_1 24 rfl rfl
theorem dksX0_digs_3 : cX0_digs.data.toList.drop 71 = dktX0_digs_3 := dk_seg dksX0_digs_2 24 rfl rfl
theorem dX0_digs_0 : decode cX0_digs 0 = .ok (.iload_n 1, 1) := dk_27 (dk_at dksX0_digs_0 0 rfl rfl)
theorem dX0_digs_1 : decode cX0_digs 1 = .ok (.invokestatic 109, 3) := dk_184 0 109 (dk_at dksX0_digs_0 1 rfl rfl)
theorem dX0_digs_4 : decode cX0_digs 4 = .ok (.ifCond .eq 10, 3) := dk_153 0 10 (dk_at dksX0_digs_0 4 rfl rfl)
theorem dX0_digs_7 : decode cX0_digs 7 = .ok (.iload_n 2, 1) := dk_28 (dk_at dksX0_digs_0 7 rfl rfl)
theorem dX0_digs_8 : decode cX0_digs 8 = .ok (.invokestatic 109, 3) := dk_184 0 109 (dk_at dksX0_digs_0 8 rfl rfl)
theorem dX0_digs_11 : decode cX0_digs 11 = .ok (.ifCond .ne 5, 3) := dk_154 0 5 (dk_at dksX0_digs_0 11 rfl rfl)
theorem dX0_digs_14 : decode cX0_digs 14 = .ok (.iconst (-1), 1) := dk_2 (dk_at dksX0_digs_0 14 rfl rfl)
theorem dX0_digs_15 : decode cX0_digs 15 = .ok (.ireturn, 1) := dk_172 (dk_at dksX0_digs_0 15 rfl rfl)
theorem dX0_digs_16 : decode cX0_digs 16 = .ok (.aload_n 0, 1) := dk_42 (dk_at dksX0_digs_0 16 rfl rfl)
theorem dX0_digs_17 : decode cX0_digs 17 = .ok (.iload_n 1, 1) := dk_27 (dk_at dksX0_digs_0 17 rfl rfl)
theorem dX0_digs_18 : decode cX0_digs 18 = .ok (.invokevirtual 284, 3) := dk_182 1 28 (dk_at dksX0_digs_0 18 rfl rfl)
theorem dX0_digs_21 : decode cX0_digs 21 = .ok (.istore_n 3, 1) := dk_62 (dk_at dksX0_digs_0 21 rfl rfl)
theorem dX0_digs_22 : decode cX0_digs 22 = .ok (.iload_n 3, 1) := dk_29 (dk_at dksX0_digs_0 22 rfl rfl)
theorem dX0_digs_23 : decode cX0_digs 23 = .ok (.ifCond .ge 5, 3) := dk_156 0 5 (dk_at dksX0_digs_1 0 rfl rfl)
theorem dX0_digs_26 : decode cX0_digs 26 = .ok (.iload_n 3, 1) := dk_29 (dk_at dksX0_digs_1 3 rfl rfl)
theorem dX0_digs_27 : decode cX0_digs 27 = .ok (.ireturn, 1) := dk_172 (dk_at dksX0_digs_1 4 rfl rfl)
theorem dX0_digs_28 : decode cX0_digs 28 = .ok (.iconst 0, 1) := dk_3 (dk_at dksX0_digs_1 5 rfl rfl)
theorem dX0_digs_29 : decode cX0_digs 29 = .ok (.istore 4, 2) := dk_54 4 (dk_at dksX0_digs_1 6 rfl rfl)
theorem dX0_digs_31 : decode cX0_digs 31 = .ok (.iload 4, 2) := dk_21 4 (dk_at dksX0_digs_1 8 rfl rfl)
theorem dX0_digs_33 : decode cX0_digs 33 = .ok (.iconst 4, 1) := dk_7 (dk_at dksX0_digs_1 10 rfl rfl)
theorem dX0_digs_34 : decode cX0_digs 34 = .ok (.if_icmp .gt 37, 3) := dk_163 0 37 (dk_at dksX0_digs_1 11 rfl rfl)
theorem dX0_digs_37 : decode cX0_digs 37 = .ok (.aload_n 0, 1) := dk_42 (dk_at dksX0_digs_1 14 rfl rfl)
theorem dX0_digs_38 : decode cX0_digs 38 = .ok (.aload_n 0, 1) := dk_42 (dk_at dksX0_digs_1 15 rfl rfl)
theorem dX0_digs_39 : decode cX0_digs 39 = .ok (.getfield 32, 3) := dk_180 0 32 (dk_at dksX0_digs_1 16 rfl rfl)
theorem dX0_digs_42 : decode cX0_digs 42 = .ok (.iload_n 1, 1) := dk_27 (dk_at dksX0_digs_1 19 rfl rfl)
theorem dX0_digs_43 : decode cX0_digs 43 = .ok (.aaload, 1) := dk_50 (dk_at dksX0_digs_1 20 rfl rfl)
theorem dX0_digs_44 : decode cX0_digs 44 = .ok (.iconst 0, 1) := dk_3 (dk_at dksX0_digs_1 21 rfl rfl)
theorem dX0_digs_45 : decode cX0_digs 45 = .ok (.iload 4, 2) := dk_21 4 (dk_at dksX0_digs_1 22 rfl rfl)
theorem dX0_digs_47 : decode cX0_digs 47 = .ok (.invokevirtual 291, 3) := dk_182 1 35 (dk_at dksX0_digs_2 0 rfl rfl)
theorem dX0_digs_50 : decode cX0_digs 50 = .ok (.ifCond .eq 15, 3) := dk_153 0 15 (dk_at dksX0_digs_2 3 rfl rfl)
theorem dX0_digs_53 : decode cX0_digs 53 = .ok (.aload_n 0, 1) := dk_42 (dk_at dksX0_digs_2 6 rfl rfl)
theorem dX0_digs_54 : decode cX0_digs 54 = .ok (.iload_n 2, 1) := dk_28 (dk_at dksX0_digs_2 7 rfl rfl)
theorem dX0_digs_55 : decode cX0_digs 55 = .ok (.aload_n 0, 1) := dk_42 (dk_at dksX0_digs_2 8 rfl rfl)
theorem dX0_digs_56 : decode cX0_digs 56 = .ok (.getfield 82, 3) := dk_180 0 82 (dk_at dksX0_digs_2 9 rfl rfl)
theorem dX0_digs_59 : decode cX0_digs 59 = .ok (.iload 4, 2) := dk_21 4 (dk_at dksX0_digs_2 12 rfl rfl)
theorem dX0_digs_61 : decode cX0_digs 61 = .ok (.invokevirtual 295, 3) := dk_182 1 39 (dk_at dksX0_digs_2 14 rfl rfl)
theorem dX0_digs_64 : decode cX0_digs 64 = .ok (.ireturn, 1) := dk_172 (dk_at dksX0_digs_2 17 rfl rfl)
theorem dX0_digs_65 : decode cX0_digs 65 = .ok (.iinc 4 1, 3) := dk_132 4 1 (dk_at dksX0_digs_2 18 rfl rfl)
theorem dX0_digs_68 : decode cX0_digs 68 = .ok (.goto (-37), 3) := dk_167 255 219 (dk_at dksX0_digs_2 21 rfl rfl)
theorem dX0_digs_71 : decode cX0_digs 71 = .ok (.bipush (-9), 2) := dk_16 247 (dk_at dksX0_digs_3 0 rfl rfl)
theorem dX0_digs_73 : decode cX0_digs 73 = .ok (.ireturn, 1) := dk_172 (dk_at dksX0_digs_3 2 rfl rfl)
abbrev cX0_digOn : ByteArray := prog_1_method_51_code
def yX0_digOn : MethodName := ⟨RX0, "digOn", "([III)Z"⟩
def dkwX0_digOn_5 : List UInt8 := [132, 4, 1, 167, 255, 220, 3, 172]
abbrev dktX0_digOn_5 : List UInt8 := dkwX0_digOn_5 ++ []
def dkwX0_digOn_4 : List UInt8 := [180, 0, 82, 28, 21, 4, 79, 42, 43, 28, 4, 96, 29, 4, 100, 182, 1, 35, 153, 0, 5, 4, 172]
abbrev dktX0_digOn_4 : List UInt8 := dkwX0_digOn_4 ++ dktX0_digOn_5
def dkwX0_digOn_3 : List UInt8 := [167, 0, 11, 42, 180, 0, 82, 28, 4, 100, 46, 54, 4, 21, 4, 42, 180, 0, 191, 162, 0, 33, 42]
abbrev dktX0_digOn_3 : List UInt8 := dkwX0_digOn_3 ++ dktX0_digOn_4
def dkwX0_digOn_2 : List UInt8 := [180, 0, 76, 43, 182, 1, 31, 43, 190, 160, 0, 7, 4, 167, 0, 4, 3, 172, 28, 154, 0, 7, 3]
abbrev dktX0_digOn_2 : List UInt8 := dkwX0_digOn_2 ++ dktX0_digOn_3
def dkwX0_digOn_1 : List UInt8 := [42, 42, 180, 0, 76, 42, 180, 0, 82, 21, 4, 46, 182, 1, 10, 87, 132, 4, 1, 167, 255, 231, 42, 42]
abbrev dktX0_digOn_1 : List UInt8 := dkwX0_digOn_1 ++ dktX0_digOn_2
def dkwX0_digOn_0 : List UInt8 := [29, 154, 0, 65, 42, 180, 0, 76, 42, 180, 0, 51, 182, 1, 21, 3, 54, 4, 21, 4, 28, 162, 0, 25]
abbrev dktX0_digOn_0 : List UInt8 := dkwX0_digOn_0 ++ dktX0_digOn_1
theorem dksX0_digOn_0 : cX0_digOn.data.toList.drop 0 = dktX0_digOn_0 := by decide +kernel
theorem dksX0_digOn_1 : cX0_digOn.data.toList.drop 24 = dktX0_digOn_1 := dk_seg dksX0_digOn_0 24 rfl rfl
theorem dksX0_digOn_2 : cX0_digOn.data.toList.drop 48 = dktX0_digOn_2 := dk_seg dksX0_digOn_1 24 rfl rfl
theorem dksX0_digOn_3 : cX0_digOn.data.toList.drop 71 = dktX0_digOn_3 := dk_seg dksX0_digOn_2 23 rfl rfl
theorem dksX0_digOn_4 : cX0_digOn.data.toList.drop 94 = dktX0_digOn_4 := dk_seg dksX0_digOn_3 23 rfl rfl
theorem dksX0_digOn_5 : cX0_digOn.data.toList.drop 117 = dktX0_digOn_5 := dk_seg dksX0_digOn_4 23 rfl rfl
theorem dX0_digOn_0 : decode cX0_digOn 0 = .ok (.iload_n 3, 1) := dk_29 (dk_at dksX0_digOn_0 0 rfl rfl)
theorem dX0_digOn_1 : decode cX0_digOn 1 = .ok (.ifCond .ne 65, 3) := dk_154 0 65 (dk_at dksX0_digOn_0 1 rfl rfl)
theorem dX0_digOn_4 : decode cX0_digOn 4 = .ok (.aload_n 0, 1) := dk_42 (dk_at dksX0_digOn_0 4 rfl rfl)
theorem dX0_digOn_5 : decode cX0_digOn 5 = .ok (.getfield 76, 3) := dk_180 0 76 (dk_at dksX0_digOn_0 5 rfl rfl)
theorem dX0_digOn_8 : decode cX0_digOn 8 = .ok (.aload_n 0, 1) := dk_42 (dk_at dksX0_digOn_0 8 rfl rfl)
theorem dX0_digOn_9 : decode cX0_digOn 9 = .ok (.getfield 51, 3) := dk_180 0 51 (dk_at dksX0_digOn_0 9 rfl rfl)
theorem dX0_digOn_12 : decode cX0_digOn 12 = .ok (.invokevirtual 277, 3) := dk_182 1 21 (dk_at dksX0_digOn_0 12 rfl rfl)
theorem dX0_digOn_15 : decode cX0_digOn 15 = .ok (.iconst 0, 1) := dk_3 (dk_at dksX0_digOn_0 15 rfl rfl)
theorem dX0_digOn_16 : decode cX0_digOn 16 = .ok (.istore 4, 2) := dk_54 4 (dk_at dksX0_digOn_0 16 rfl rfl)
theorem dX0_digOn_18 : decode cX0_digOn 18 = .ok (.iload 4, 2) := dk_21 4 (dk_at dksX0_digOn_0 18 rfl rfl)
theorem dX0_digOn_20 : decode cX0_digOn 20 = .ok (.iload_n 2, 1) := dk_28 (dk_at dksX0_digOn_0 20 rfl rfl)
theorem dX0_digOn_21 : decode cX0_digOn 21 = .ok (.if_icmp .ge 25, 3) := dk_162 0 25 (dk_at dksX0_digOn_0 21 rfl rfl)
theorem dX0_digOn_24 : decode cX0_digOn 24 = .ok (.aload_n 0, 1) := dk_42 (dk_at dksX0_digOn_1 0 rfl rfl)
theorem dX0_digOn_25 : decode cX0_digOn 25 = .ok (.aload_n 0, 1) := dk_42 (dk_at dksX0_digOn_1 1 rfl rfl)
theorem dX0_digOn_26 : decode cX0_digOn 26 = .ok (.getfield 76, 3) := dk_180 0 76 (dk_at dksX0_digOn_1 2 rfl rfl)
theorem dX0_digOn_29 : decode cX0_digOn 29 = .ok (.aload_n 0, 1) := dk_42 (dk_at dksX0_digOn_1 5 rfl rfl)
theorem dX0_digOn_30 : decode cX0_digOn 30 = .ok (.getfield 82, 3) := dk_180 0 82 (dk_at dksX0_digOn_1 6 rfl rfl)
theorem dX0_digOn_33 : decode cX0_digOn 33 = .ok (.iload 4, 2) := dk_21 4 (dk_at dksX0_digOn_1 9 rfl rfl)
theorem dX0_digOn_35 : decode cX0_digOn 35 = .ok (.iaload, 1) := dk_46 (dk_at dksX0_digOn_1 11 rfl rfl)
theorem dX0_digOn_36 : decode cX0_digOn 36 = .ok (.invokevirtual 266, 3) := dk_182 1 10 (dk_at dksX0_digOn_1 12 rfl rfl)
theorem dX0_digOn_39 : decode cX0_digOn 39 = .ok (.pop, 1) := dk_87 (dk_at dksX0_digOn_1 15 rfl rfl)
theorem dX0_digOn_40 : decode cX0_digOn 40 = .ok (.iinc 4 1, 3) := dk_132 4 1 (dk_at dksX0_digOn_1 16 rfl rfl)
theorem dX0_digOn_43 : decode cX0_digOn 43 = .ok (.goto (-25), 3) := dk_167 255 231 (dk_at dksX0_digOn_1 19 rfl rfl)
theorem dX0_digOn_46 : decode cX0_digOn 46 = .ok (.aload_n 0, 1) := dk_42 (dk_at dksX0_digOn_1 22 rfl rfl)
theorem dX0_digOn_47 : decode cX0_digOn 47 = .ok (.aload_n 0, 1) := dk_42 (dk_at dksX0_digOn_1 23 rfl rfl)
theorem dX0_digOn_48 : decode cX0_digOn 48 = .ok (.getfield 76, 3) := dk_180 0 76 (dk_at dksX0_digOn_2 0 rfl rfl)
theorem dX0_digOn_51 : decode cX0_digOn 51 = .ok (.aload_n 1, 1) := dk_43 (dk_at dksX0_digOn_2 3 rfl rfl)
theorem dX0_digOn_52 : decode cX0_digOn 52 = .ok (.invokevirtual 287, 3) := dk_182 1 31 (dk_at dksX0_digOn_2 4 rfl rfl)
theorem dX0_digOn_55 : decode cX0_digOn 55 = .ok (.aload_n 1, 1) := dk_43 (dk_at dksX0_digOn_2 7 rfl rfl)
theorem dX0_digOn_56 : decode cX0_digOn 56 = .ok (.arraylength, 1) := dk_190 (dk_at dksX0_digOn_2 8 rfl rfl)
theorem dX0_digOn_57 : decode cX0_digOn 57 = .ok (.if_icmp .ne 7, 3) := dk_160 0 7 (dk_at dksX0_digOn_2 9 rfl rfl)
theorem dX0_digOn_60 : decode cX0_digOn 60 = .ok (.iconst 1, 1) := dk_4 (dk_at dksX0_digOn_2 12 rfl rfl)
theorem dX0_digOn_61 : decode cX0_digOn 61 = .ok (.goto 4, 3) := dk_167 0 4 (dk_at dksX0_digOn_2 13 rfl rfl)
theorem dX0_digOn_64 : decode cX0_digOn 64 = .ok (.iconst 0, 1) := dk_3 (dk_at dksX0_digOn_2 16 rfl rfl)
theorem dX0_digOn_65 : decode cX0_digOn 65 = .ok (.ireturn, 1) := dk_172 (dk_at dksX0_digOn_2 17 rfl rfl)
theorem dX0_digOn_66 : decode cX0_digOn 66 = .ok (.iload_n 2, 1) := dk_28 (dk_at dksX0_digOn_2 18 rfl rfl)
theorem dX0_digOn_67 : decode cX0_digOn 67 = .ok (.ifCond .ne 7, 3) := dk_154 0 7 (dk_at dksX0_digOn_2 19 rfl rfl)
theorem dX0_digOn_70 : decode cX0_digOn 70 = .ok (.iconst 0, 1) := dk_3 (dk_at dksX0_digOn_2 22 rfl rfl)
theorem dX0_digOn_71 : decode cX0_digOn 71 = .ok (.goto 11, 3) := dk_167 0 11 (dk_at dksX0_digOn_3 0 rfl rfl)
theorem dX0_digOn_74 : decode cX0_digOn 74 = .ok (.aload_n 0, 1) := dk_42 (dk_at dksX0_digOn_3 3 rfl rfl)
theorem dX0_digOn_75 : decode cX0_digOn 75 = .ok (.getfield 82, 3) := dk_180 0 82 (dk_at dksX0_digOn_3 4 rfl rfl)
theorem dX0_digOn_78 : decode cX0_digOn 78 = .ok (.iload_n 2, 1) := dk_28 (dk_at dksX0_digOn_3 7 rfl rfl)
theorem dX0_digOn_79 : decode cX0_digOn 79 = .ok (.iconst 1, 1) := dk_4 (dk_at dksX0_digOn_3 8 rfl rfl)
theorem dX0_digOn_80 : decode cX0_digOn 80 = .ok (.isub, 1) := dk_100 (dk_at dksX0_digOn_3 9 rfl rfl)
theorem dX0_digOn_81 : decode cX0_digOn 81 = .ok (.iaload, 1) := dk_46 (dk_at dksX0_digOn_3 10 rfl rfl)
theorem dX0_digOn_82 : decode cX0_digOn 82 = .ok (.istore 4, 2) := dk_54 4 (dk_at dksX0_digOn_3 11 rfl rfl)
theorem dX0_digOn_84 : decode cX0_digOn 84 = .ok (.iload 4, 2) := dk_21 4 (dk_at dksX0_digOn_3 13 rfl rfl)
theorem dX0_digOn_86 : decode cX0_digOn 86 = .ok (.aload_n 0, 1) := dk_42 (dk_at dksX0_digOn_3 15 rfl rfl)
theorem dX0_digOn_87 : decode cX0_digOn 87 = .ok (.getfield 191, 3) := dk_180 0 191 (dk_at dksX0_digOn_3 16 rfl rfl)
theorem dX0_digOn_90 : decode cX0_digOn 90 = .ok (.if_icmp .ge 33, 3) := dk_162 0 33 (dk_at dksX0_digOn_3 19 rfl rfl)
theorem dX0_digOn_93 : decode cX0_digOn 93 = .ok (.aload_n 0, 1) := dk_42 (dk_at dksX0_digOn_3 22 rfl rfl)
theorem dX0_digOn_94 : decode cX0_digOn 94 = .ok (.getfield 82, 3) := dk_180 0 82 (dk_at dksX0_digOn_4 0 rfl rfl)
theorem dX0_digOn_97 : decode cX0_digOn 97 = .ok (.iload_n 2, 1) := dk_28 (dk_at dksX0_digOn_4 3 rfl rfl)
theorem dX0_digOn_98 : decode cX0_digOn 98 = .ok (.iload 4, 2) := dk_21 4 (dk_at dksX0_digOn_4 4 rfl rfl)
theorem dX0_digOn_100 : decode cX0_digOn 100 = .ok (.iastore, 1) := dk_79 (dk_at dksX0_digOn_4 6 rfl rfl)
theorem dX0_digOn_101 : decode cX0_digOn 101 = .ok (.aload_n 0, 1) := dk_42 (dk_at dksX0_digOn_4 7 rfl rfl)
theorem dX0_digOn_102 : decode cX0_digOn 102 = .ok (.aload_n 1, 1) := dk_43 (dk_at dksX0_digOn_4 8 rfl rfl)
theorem dX0_digOn_103 : decode cX0_digOn 103 = .ok (.iload_n 2, 1) := dk_28 (dk_at dksX0_digOn_4 9 rfl rfl)
theorem dX0_digOn_104 : decode cX0_digOn 104 = .ok (.iconst 1, 1) := dk_4 (dk_at dksX0_digOn_4 10 rfl rfl)
theorem dX0_digOn_105 : decode cX0_digOn 105 = .ok (.iadd, 1) := dk_96 (dk_at dksX0_digOn_4 11 rfl rfl)
theorem dX0_digOn_106 : decode cX0_digOn 106 = .ok (.iload_n 3, 1) := dk_29 (dk_at dksX0_digOn_4 12 rfl rfl)
theorem dX0_digOn_107 : decode cX0_digOn 107 = .ok (.iconst 1, 1) := dk_4 (dk_at dksX0_digOn_4 13 rfl rfl)
theorem dX0_digOn_108 : decode cX0_digOn 108 = .ok (.isub, 1) := dk_100 (dk_at dksX0_digOn_4 14 rfl rfl)
theorem dX0_digOn_109 : decode cX0_digOn 109 = .ok (.invokevirtual 291, 3) := dk_182 1 35 (dk_at dksX0_digOn_4 15 rfl rfl)
theorem dX0_digOn_112 : decode cX0_digOn 112 = .ok (.ifCond .eq 5, 3) := dk_153 0 5 (dk_at dksX0_digOn_4 18 rfl rfl)
theorem dX0_digOn_115 : decode cX0_digOn 115 = .ok (.iconst 1, 1) := dk_4 (dk_at dksX0_digOn_4 21 rfl rfl)
theorem dX0_digOn_116 : decode cX0_digOn 116 = .ok (.ireturn, 1) := dk_172 (dk_at dksX0_digOn_4 22 rfl rfl)
theorem dX0_digOn_117 : decode cX0_digOn 117 = .ok (.iinc 4 1, 3) := dk_132 4 1 (dk_at dksX0_digOn_5 0 rfl rfl)
theorem dX0_digOn_120 : decode cX0_digOn 120 = .ok (.goto (-36), 3) := dk_167 255 220 (dk_at dksX0_digOn_5 3 rfl rfl)
theorem dX0_digOn_123 : decode cX0_digOn 123 = .ok (.iconst 0, 1) := dk_3 (dk_at dksX0_digOn_5 6 rfl rfl)
theorem dX0_digOn_124 : decode cX0_digOn 124 = .ok (.ireturn, 1) := dk_172 (dk_at dksX0_digOn_5 7 rfl rfl)
abbrev cX0_layRow : ByteArray := prog_1_method_52_code
def yX0_layRow : MethodName := ⟨RX0, "layRow", "(I[II)I"⟩
def dkwX0_layRow_0 : List UInt8 := [42, 180, 0, 32, 27, 29, 188, 10, 83, 44, 3, 42, 180, 0, 32, 27, 50, 3, 29, 184, 0, 130, 29, 172]
abbrev dktX0_layRow_0 : List UInt8 := dkwX0_layRow_0 ++ []
theorem dksX0_layRow_0 : cX0_layRow.data.toList.drop 0 = dktX0_layRow_0 := by decide +kernel
theorem dX0_layRow_0 : decode cX0_layRow 0 = .ok (.aload_n 0, 1) := dk_42 (dk_at dksX0_layRow_0 0 rfl rfl)
theorem dX0_layRow_1 : decode cX0_layRow 1 = .ok (.getfield 32, 3) := dk_180 0 32 (dk_at dksX0_layRow_0 1 rfl rfl)
theorem dX0_layRow_4 : decode cX0_layRow 4 = .ok (.iload_n 1, 1) := dk_27 (dk_at dksX0_layRow_0 4 rfl rfl)
theorem dX0_layRow_5 : decode cX0_layRow 5 = .ok (.iload_n 3, 1) := dk_29 (dk_at dksX0_layRow_0 5 rfl rfl)
theorem dX0_layRow_6 : decode cX0_layRow 6 = .ok (.newarray .int, 2) := dk_188_10 (dk_at dksX0_layRow_0 6 rfl rfl)
theorem dX0_layRow_8 : decode cX0_layRow 8 = .ok (.aastore, 1) := dk_83 (dk_at dksX0_layRow_0 8 rfl rfl)
theorem dX0_layRow_9 : decode cX0_layRow 9 = .ok (.aload_n 2, 1) := dk_44 (dk_at dksX0_layRow_0 9 rfl rfl)
theorem dX0_layRow_10 : decode cX0_layRow 10 = .ok (.iconst 0, 1) := dk_3 (dk_at dksX0_layRow_0 10 rfl rfl)
theorem dX0_layRow_11 : decode cX0_layRow 11 = .ok (.aload_n 0, 1) := dk_42 (dk_at dksX0_layRow_0 11 rfl rfl)
theorem dX0_layRow_12 : decode cX0_layRow 12 = .ok (.getfield 32, 3) := dk_180 0 32 (dk_at dksX0_layRow_0 12 rfl rfl)
theorem dX0_layRow_15 : decode cX0_layRow 15 = .ok (.iload_n 1, 1) := dk_27 (dk_at dksX0_layRow_0 15 rfl rfl)
theorem dX0_layRow_16 : decode cX0_layRow 16 = .ok (.aaload, 1) := dk_50 (dk_at dksX0_layRow_0 16 rfl rfl)
theorem dX0_layRow_17 : decode cX0_layRow 17 = .ok (.iconst 0, 1) := dk_3 (dk_at dksX0_layRow_0 17 rfl rfl)
theorem dX0_layRow_18 : decode cX0_layRow 18 = .ok (.iload_n 3, 1) := dk_29 (dk_at dksX0_layRow_0 18 rfl rfl)
theorem dX0_layRow_19 : decode cX0_layRow 19 = .ok (.invokestatic 130, 3) := dk_184 0 130 (dk_at dksX0_layRow_0 19 rfl rfl)
theorem dX0_layRow_22 : decode cX0_layRow 22 = .ok (.iload_n 3, 1) := dk_29 (dk_at dksX0_layRow_0 22 rfl rfl)
theorem dX0_layRow_23 : decode cX0_layRow 23 = .ok (.ireturn, 1) := dk_172 (dk_at dksX0_layRow_0 23 rfl rfl)
abbrev cX0_lasts : ByteArray := prog_1_method_54_code
def yX0_lasts : MethodName := ⟨RX0, "lasts", "(II)I"⟩
def dkwX0_lasts_5 : List UInt8 := [167, 0, 4, 3, 96, 54, 4, 167, 255, 177, 21, 4, 172]
abbrev dktX0_lasts_5 : List UInt8 := dkwX0_lasts_5 ++ []
def dkwX0_lasts_4 : List UInt8 := [180, 0, 32, 27, 50, 190, 160, 0, 7, 4, 167, 0, 4, 3, 54, 5, 21, 4, 21, 5, 153, 0, 7, 4]
abbrev dktX0_lasts_4 : List UInt8 := dkwX0_lasts_4 ++ dktX0_lasts_5
def dkwX0_lasts_3 : List UInt8 := [42, 180, 0, 79, 182, 1, 21, 42, 42, 180, 0, 76, 42, 180, 0, 32, 27, 50, 182, 1, 31, 42]
abbrev dktX0_lasts_3 : List UInt8 := dkwX0_lasts_3 ++ dktX0_lasts_4
def dkwX0_lasts_2 : List UInt8 := [153, 0, 80, 21, 4, 16, 20, 162, 0, 73, 42, 42, 180, 0, 79, 28, 182, 1, 1, 87, 42, 180, 0, 76]
abbrev dktX0_lasts_2 : List UInt8 := dkwX0_lasts_2 ++ dktX0_lasts_3
def dkwX0_lasts_1 : List UInt8 := [156, 0, 5, 29, 172, 42, 180, 0, 79, 42, 180, 0, 51, 182, 1, 21, 3, 54, 4, 4, 54, 5, 21, 5]
abbrev dktX0_lasts_1 : List UInt8 := dkwX0_lasts_1 ++ dktX0_lasts_2
def dkwX0_lasts_0 : List UInt8 := [27, 184, 0, 109, 153, 0, 10, 28, 184, 0, 254, 154, 0, 5, 2, 172, 42, 27, 182, 1, 28, 62, 29]
abbrev dktX0_lasts_0 : List UInt8 := dkwX0_lasts_0 ++ dktX0_lasts_1
theorem dksX0_lasts_0 : cX0_lasts.data.toList.drop 0 = dktX0_lasts_0 := by decide +kernel
theorem dksX0_lasts_1 : cX0_lasts.data.toList.drop 23 = dktX0_lasts_1 := dk_seg dksX0_lasts_0 23 rfl rfl
theorem dksX0_lasts_2 : cX0_lasts.data.toList.drop 47 = dktX0_lasts_2 := dk_seg dksX0_lasts_1 24 rfl rfl
theorem dksX0_lasts_3 : cX0_lasts.data.toList.drop 71 = dktX0_lasts_3 := dk_seg dksX0_lasts_2 24 rfl rfl
theorem dksX0_lasts_4 : cX0_lasts.data.toList.drop 93 = dktX0_lasts_4 := dk_seg dksX0_lasts_3 22 rfl rfl
theorem dksX0_lasts_5 : cX0_lasts.data.toList.drop 117 = dktX0_lasts_5 := dk_seg dksX0_lasts_4 24 rfl rfl
theorem dX0_lasts_0 : decode cX0_lasts 0 = .ok (.iload_n 1, 1) := dk_27 (dk_at dksX0_lasts_0 0 rfl rfl)
theorem dX0_lasts_1 : decode cX0_lasts 1 = .ok (.invokestatic 109, 3) := dk_184 0 109 (dk_at dksX0_lasts_0 1 rfl rfl)
theorem dX0_lasts_4 : decode cX0_lasts 4 = .ok (.ifCond .eq 10, 3) := dk_153 0 10 (dk_at dksX0_lasts_0 4 rfl rfl)
theorem dX0_lasts_7 : decode cX0_lasts 7 = .ok (.iload_n 2, 1) := dk_28 (dk_at dksX0_lasts_0 7 rfl rfl)
theorem dX0_lasts_8 : decode cX0_lasts 8 = .ok (.invokestatic 254, 3) := dk_184 0 254 (dk_at dksX0_lasts_0 8 rfl rfl)
theorem dX0_lasts_11 : decode cX0_lasts 11 = .ok (.ifCond .ne 5, 3) := dk_154 0 5 (dk_at dksX0_lasts_0 11 rfl rfl)
theorem dX0_lasts_14 : decode cX0_lasts 14 = .ok (.iconst (-1), 1) := dk_2 (dk_at dksX0_lasts_0 14 rfl rfl)
theorem dX0_lasts_15 : decode cX0_lasts 15 = .ok (.ireturn, 1) := dk_172 (dk_at dksX0_lasts_0 15 rfl rfl)
theorem dX0_lasts_16 : decode cX0_lasts 16 = .ok (.aload_n 0, 1) := dk_42 (dk_at dksX0_lasts_0 16 rfl rfl)
theorem dX0_lasts_17 : decode cX0_lasts 17 = .ok (.iload_n 1, 1) := dk_27 (dk_at dksX0_lasts_0 17 rfl rfl)
theorem dX0_lasts_18 : decode cX0_lasts 18 = .ok (.invokevirtual 284, 3) := dk_182 1 28 (dk_at dksX0_lasts_0 18 rfl rfl)
theorem dX0_lasts_21 : decode cX0_lasts 21 = .ok (.istore_n 3, 1) := dk_62 (dk_at dksX0_lasts_0 21 rfl rfl)
theorem dX0_lasts_22 : decode cX0_lasts 22 = .ok (.iload_n 3, 1) := dk_29 (dk_at dksX0_lasts_0 22 rfl rfl)
theorem dX0_lasts_23 : decode cX0_lasts 23 = .ok (.ifCond .ge 5, 3) := dk_156 0 5 (dk_at dksX0_lasts_1 0 rfl rfl)
theorem dX0_lasts_26 : decode cX0_lasts 26 = .ok (.iload_n 3, 1) := dk_29 (dk_at dksX0_lasts_1 3 rfl rfl)
theorem dX0_lasts_27 : decode cX0_lasts 27 = .ok (.ireturn, 1) := dk_172 (dk_at dksX0_lasts_1 4 rfl rfl)
theorem dX0_lasts_28 : decode cX0_lasts 28 = .ok (.aload_n 0, 1) := dk_42 (dk_at dksX0_lasts_1 5 rfl rfl)
theorem dX0_lasts_29 : decode cX0_lasts 29 = .ok (.getfield 79, 3) := dk_180 0 79 (dk_at dksX0_lasts_1 6 rfl rfl)
theorem dX0_lasts_32 : decode cX0_lasts 32 = .ok (.aload_n 0, 1) := dk_42 (dk_at dksX0_lasts_1 9 rfl rfl)
theorem dX0_lasts_33 : decode cX0_lasts 33 = .ok (.getfield 51, 3) := dk_180 0 51 (dk_at dksX0_lasts_1 10 rfl rfl)
theorem dX0_lasts_36 : decode cX0_lasts 36 = .ok (.invokevirtual 277, 3) := dk_182 1 21 (dk_at dksX0_lasts_1 13 rfl rfl)
theorem dX0_lasts_39 : decode cX0_lasts 39 = .ok (.iconst 0, 1) := dk_3 (dk_at dksX0_lasts_1 16 rfl rfl)
theorem dX0_lasts_40 : decode cX0_lasts 40 = .ok (.istore 4, 2) := dk_54 4 (dk_at dksX0_lasts_1 17 rfl rfl)
theorem dX0_lasts_42 : decode cX0_lasts 42 = .ok (.iconst 1, 1) := dk_4 (dk_at dksX0_lasts_1 19 rfl rfl)
theorem dX0_lasts_43 : decode cX0_lasts 43 = .ok (.istore 5, 2) := dk_54 5 (dk_at dksX0_lasts_1 20 rfl rfl)
theorem dX0_lasts_45 : decode cX0_lasts 45 = .ok (.iload 5, 2) := dk_21 5 (dk_at dksX0_lasts_1 22 rfl rfl)
theorem dX0_lasts_47 : decode cX0_lasts 47 = .ok (.ifCond .eq 80, 3) := dk_153 0 80 (dk_at dksX0_lasts_2 0 rfl rfl)
theorem dX0_lasts_50 : decode cX0_lasts 50 = .ok (.iload 4, 2) := dk_21 4 (dk_at dksX0_lasts_2 3 rfl rfl)
theorem dX0_lasts_52 : decode cX0_lasts 52 = .ok (.bipush 20, 2) := dk_16 20 (dk_at dksX0_lasts_2 5 rfl rfl)
theorem dX0_lasts_54 : decode cX0_lasts 54 = .ok (.if_icmp .ge 73, 3) := dk_162 0 73 (dk_at dksX0_lasts_2 7 rfl rfl)
theorem dX0_lasts_57 : decode cX0_lasts 57 = .ok (.aload_n 0, 1) := dk_42 (dk_at dksX0_lasts_2 10 rfl rfl)
theorem dX0_lasts_58 : decode cX0_lasts 58 = .ok (.aload_n 0, 1) := dk_42 (dk_at dksX0_lasts_2 11 rfl rfl)
theorem dX0_lasts_59 : decode cX0_lasts 59 = .ok (.getfield 79, 3) := dk_180 0 79 (dk_at dksX0_lasts_2 12 rfl rfl)
theorem dX0_lasts_62 : decode cX0_lasts 62 = .ok (.iload_n 2, 1) := dk_28 (dk_at dksX0_lasts_2 15 rfl rfl)
theorem dX0_lasts_63 : decode cX0_lasts 63 = .ok (.invokevirtual 257, 3) := dk_182 1 1 (dk_at dksX0_lasts_2 16 rfl rfl)
theorem dX0_lasts_66 : decode cX0_lasts 66 = .ok (.pop, 1) := dk_87 (dk_at dksX0_lasts_2 19 rfl rfl)
theorem dX0_lasts_67 : decode cX0_lasts 67 = .ok (.aload_n 0, 1) := dk_42 (dk_at dksX0_lasts_2 20 rfl rfl)
theorem dX0_lasts_68 : decode cX0_lasts 68 = .ok (.getfield 76, 3) := dk_180 0 76 (dk_at dksX0_lasts_2 21 rfl rfl)
theorem dX0_lasts_71 : decode cX0_lasts 71 = .ok (.aload_n 0, 1) := dk_42 (dk_at dksX0_lasts_3 0 rfl rfl)
theorem dX0_lasts_72 : decode cX0_lasts 72 = .ok (.getfield 79, 3) := dk_180 0 79 (dk_at dksX0_lasts_3 1 rfl rfl)
theorem dX0_lasts_75 : decode cX0_lasts 75 = .ok (.invokevirtual 277, 3) := dk_182 1 21 (dk_at dksX0_lasts_3 4 rfl rfl)
theorem dX0_lasts_78 : decode cX0_lasts 78 = .ok (.aload_n 0, 1) := dk_42 (dk_at dksX0_lasts_3 7 rfl rfl)
theorem dX0_lasts_79 : decode cX0_lasts 79 = .ok (.aload_n 0, 1) := dk_42 (dk_at dksX0_lasts_3 8 rfl rfl)
theorem dX0_lasts_80 : decode cX0_lasts 80 = .ok (.getfield 76, 3) := dk_180 0 76 (dk_at dksX0_lasts_3 9 rfl rfl)
theorem dX0_lasts_83 : decode cX0_lasts 83 = .ok (.aload_n 0, 1) := dk_42 (dk_at dksX0_lasts_3 12 rfl rfl)
theorem dX0_lasts_84 : decode cX0_lasts 84 = .ok (.getfield 32, 3) := dk_180 0 32 (dk_at dksX0_lasts_3 13 rfl rfl)
theorem dX0_lasts_87 : decode cX0_lasts 87 = .ok (.iload_n 1, 1) := dk_27 (dk_at dksX0_lasts_3 16 rfl rfl)
theorem dX0_lasts_88 : decode cX0_lasts 88 = .ok (.aaload, 1) := dk_50 (dk_at dksX0_lasts_3 17 rfl rfl)
theorem dX0_lasts_89 : decode cX0_lasts 89 = .ok (.invokevirtual 287, 3) := dk_182 1 31 (dk_at dksX0_lasts_3 18 rfl rfl)
theorem dX0_lasts_92 : decode cX0_lasts 92 = .ok (.aload_n 0, 1) := dk_42 (dk_at dksX0_lasts_3 21 rfl rfl)
theorem dX0_lasts_93 : decode cX0_lasts 93 = .ok (.getfield 32, 3) := dk_180 0 32 (dk_at dksX0_lasts_4 0 rfl rfl)
theorem dX0_lasts_96 : decode cX0_lasts 96 = .ok (.iload_n 1, 1) := dk_27 (dk_at dksX0_lasts_4 3 rfl rfl)
theorem dX0_lasts_97 : decode cX0_lasts 97 = .ok (.aaload, 1) := dk_50 (dk_at dksX0_lasts_4 4 rfl rfl)
theorem dX0_lasts_98 : decode cX0_lasts 98 = .ok (.arraylength, 1) := dk_190 (dk_at dksX0_lasts_4 5 rfl rfl)
theorem dX0_lasts_99 : decode cX0_lasts 99 = .ok (.if_icmp .ne 7, 3) := dk_160 0 7 (dk_at dksX0_lasts_4 6 rfl rfl)
theorem dX0_lasts_102 : decode cX0_lasts 102 = .ok (.iconst 1, 1) := dk_4 (dk_at dksX0_lasts_4 9 rfl rfl)
theorem dX0_lasts_103 : decode cX0_lasts 103 = .ok (.goto 4, 3) := dk_167 0 4 (dk_at dksX0_lasts_4 10 rfl rfl)
theorem dX0_lasts_106 : decode cX0_lasts 106 = .ok (.iconst 0, 1) := dk_3 (dk_at dksX0_lasts_4 13 rfl rfl)
theorem dX0_lasts_107 : decode cX0_lasts 107 = .ok (.istore 5, 2) := dk_54 5 (dk_at dksX0_lasts_4 14 rfl rfl)
theorem dX0_lasts_109 : decode cX0_lasts 109 = .ok (.iload 4, 2) := dk_21 4 (dk_at dksX0_lasts_4 16 rfl rfl)
theorem dX0_lasts_111 : decode cX0_lasts 111 = .ok (.iload 5, 2) := dk_21 5 (dk_at dksX0_lasts_4 18 rfl rfl)
theorem dX0_lasts_113 : decode cX0_lasts 113 = .ok (.ifCond .eq 7, 3) := dk_153 0 7 (dk_at dksX0_lasts_4 20 rfl rfl)
theorem dX0_lasts_116 : decode cX0_lasts 116 = .ok (.iconst 1, 1) := dk_4 (dk_at dksX0_lasts_4 23 rfl rfl)
theorem dX0_lasts_117 : decode cX0_lasts 117 = .ok (.goto 4, 3) := dk_167 0 4 (dk_at dksX0_lasts_5 0 rfl rfl)
theorem dX0_lasts_120 : decode cX0_lasts 120 = .ok (.iconst 0, 1) := dk_3 (dk_at dksX0_lasts_5 3 rfl rfl)
theorem dX0_lasts_121 : decode cX0_lasts 121 = .ok (.iadd, 1) := dk_96 (dk_at dksX0_lasts_5 4 rfl rfl)
theorem dX0_lasts_122 : decode cX0_lasts 122 = .ok (.istore 4, 2) := dk_54 4 (dk_at dksX0_lasts_5 5 rfl rfl)
theorem dX0_lasts_124 : decode cX0_lasts 124 = .ok (.goto (-79), 3) := dk_167 255 177 (dk_at dksX0_lasts_5 7 rfl rfl)
theorem dX0_lasts_127 : decode cX0_lasts 127 = .ok (.iload 4, 2) := dk_21 4 (dk_at dksX0_lasts_5 10 rfl rfl)
theorem dX0_lasts_129 : decode cX0_lasts 129 = .ok (.ireturn, 1) := dk_172 (dk_at dksX0_lasts_5 12 rfl rfl)
abbrev cX0_duet : ByteArray := prog_1_method_55_code
def yX0_duet : MethodName := ⟨RX0, "duet", "(II)I"⟩
def dkwX0_duet_6 : List UInt8 := [42, 180, 0, 79, 25, 4, 21, 5, 46, 182, 0, 251, 132, 5, 1, 167, 255, 184, 21, 5, 172]
abbrev dktX0_duet_6 : List UInt8 := dkwX0_duet_6 ++ []
def dkwX0_duet_5 : List UInt8 := [180, 0, 79, 182, 0, 212, 153, 0, 36, 42, 21, 5, 5, 112, 154, 0, 10, 42, 180, 0, 76, 167, 0, 7]
abbrev dktX0_duet_5 : List UInt8 := dkwX0_duet_5 ++ dktX0_duet_6
def dkwX0_duet_4 : List UInt8 := [180, 0, 44, 25, 4, 21, 5, 46, 50, 21, 5, 5, 112, 154, 0, 10, 42, 180, 0, 76, 167, 0, 7, 42]
abbrev dktX0_duet_4 : List UInt8 := dkwX0_duet_4 ++ dktX0_duet_5
def dkwX0_duet_3 : List UInt8 := [182, 1, 21, 42, 180, 0, 32, 28, 50, 58, 4, 3, 54, 5, 21, 5, 25, 4, 190, 162, 0, 70, 42]
abbrev dktX0_duet_3 : List UInt8 := dkwX0_duet_3 ++ dktX0_duet_4
def dkwX0_duet_2 : List UInt8 := [180, 0, 76, 42, 180, 0, 51, 182, 1, 21, 42, 180, 0, 79, 42, 180, 0, 72, 27, 50, 180, 1, 20]
abbrev dktX0_duet_2 : List UInt8 := dkwX0_duet_2 ++ dktX0_duet_3
def dkwX0_duet_1 : List UInt8 := [199, 0, 9, 42, 4, 182, 0, 115, 172, 42, 28, 182, 1, 28, 62, 29, 156, 0, 5, 29, 172, 42]
abbrev dktX0_duet_1 : List UInt8 := dkwX0_duet_1 ++ dktX0_duet_2
def dkwX0_duet_0 : List UInt8 := [27, 184, 1, 16, 153, 0, 10, 28, 184, 0, 109, 154, 0, 5, 2, 172, 42, 180, 0, 72, 27, 50]
abbrev dktX0_duet_0 : List UInt8 := dkwX0_duet_0 ++ dktX0_duet_1
theorem dksX0_duet_0 : cX0_duet.data.toList.drop 0 = dktX0_duet_0 := by decide +kernel
theorem dksX0_duet_1 : cX0_duet.data.toList.drop 22 = dktX0_duet_1 := dk_seg dksX0_duet_0 22 rfl rfl
theorem dksX0_duet_2 : cX0_duet.data.toList.drop 44 = dktX0_duet_2 := dk_seg dksX0_duet_1 22 rfl rfl
theorem dksX0_duet_3 : cX0_duet.data.toList.drop 67 = dktX0_duet_3 := dk_seg dksX0_duet_2 23 rfl rfl
theorem dksX0_duet_4 : cX0_duet.data.toList.drop 90 = dktX0_duet_4 := dk_seg dksX0_duet_3 23 rfl rfl
theorem dksX0_duet_5 : cX0_duet.data.toList.drop 114 = dktX0_duet_5 := dk_seg dksX0_duet_4 24 rfl rfl
theorem dksX0_duet_6 : cX0_duet.data.toList.drop 138 = dktX0_duet_6 := dk_seg dksX0_duet_5 24 rfl rfl
theorem dX0_duet_0 : decode cX0_duet 0 = .ok (.iload_n 1, 1) := dk_27 (dk_at dksX0_duet_0 0 rfl rfl)
theorem dX0_duet_1 : decode cX0_duet 1 = .ok (.invokestatic 272, 3) := dk_184 1 16 (dk_at dksX0_duet_0 1 rfl rfl)
theorem dX0_duet_4 : decode cX0_duet 4 = .ok (.ifCond .eq 10, 3) := dk_153 0 10 (dk_at dksX0_duet_0 4 rfl rfl)
theorem dX0_duet_7 : decode cX0_duet 7 = .ok (.iload_n 2, 1) := dk_28 (dk_at dksX0_duet_0 7 rfl rfl)
theorem dX0_duet_8 : decode cX0_duet 8 = .ok (.invokestatic 109, 3) := dk_184 0 109 (dk_at dksX0_duet_0 8 rfl rfl)
theorem dX0_duet_11 : decode cX0_duet 11 = .ok (.ifCond .ne 5, 3) := dk_154 0 5 (dk_at dksX0_duet_0 11 rfl rfl)
theorem dX0_duet_14 : decode cX0_duet 14 = .ok (.iconst (-1), 1) := dk_2 (dk_at dksX0_duet_0 14 rfl rfl)
theorem dX0_duet_15 : decode cX0_duet 15 = .ok (.ireturn, 1) := dk_172 (dk_at dksX0_duet_0 15 rfl rfl)
theorem dX0_duet_16 : decode cX0_duet 16 = .ok (.aload_n 0, 1) := dk_42 (dk_at dksX0_duet_0 16 rfl rfl)
theorem dX0_duet_17 : decode cX0_duet 17 = .ok (.getfield 72, 3) := dk_180 0 72 (dk_at dksX0_duet_0 17 rfl rfl)
theorem dX0_duet_20 : decode cX0_duet 20 = .ok (.iload_n 1, 1) := dk_27 (dk_at dksX0_duet_0 20 rfl rfl)
theorem dX0_duet_21 : decode cX0_duet 21 = .ok (.aaload, 1) := dk_50 (dk_at dksX0_duet_0 21 rfl rfl)
theorem dX0_duet_22 : decode cX0_duet 22 = .ok (.ifnonnull 9, 3) := dk_199 0 9 (dk_at dksX0_duet_1 0 rfl rfl)
theorem dX0_duet_25 : decode cX0_duet 25 = .ok (.aload_n 0, 1) := dk_42 (dk_at dksX0_duet_1 3 rfl rfl)
theorem dX0_duet_26 : decode cX0_duet 26 = .ok (.iconst 1, 1) := dk_4 (dk_at dksX0_duet_1 4 rfl rfl)
theorem dX0_duet_27 : decode cX0_duet 27 = .ok (.invokevirtual 115, 3) := dk_182 0 115 (dk_at dksX0_duet_1 5 rfl rfl)
theorem dX0_duet_30 : decode cX0_duet 30 = .ok (.ireturn, 1) := dk_172 (dk_at dksX0_duet_1 8 rfl rfl)
theorem dX0_duet_31 : decode cX0_duet 31 = .ok (.aload_n 0, 1) := dk_42 (dk_at dksX0_duet_1 9 rfl rfl)
theorem dX0_duet_32 : decode cX0_duet 32 = .ok (.iload_n 2, 1) := dk_28 (dk_at dksX0_duet_1 10 rfl rfl)
theorem dX0_duet_33 : decode cX0_duet 33 = .ok (.invokevirtual 284, 3) := dk_182 1 28 (dk_at dksX0_duet_1 11 rfl rfl)
theorem dX0_duet_36 : decode cX0_duet 36 = .ok (.istore_n 3, 1) := dk_62 (dk_at dksX0_duet_1 14 rfl rfl)
theorem dX0_duet_37 : decode cX0_duet 37 = .ok (.iload_n 3, 1) := dk_29 (dk_at dksX0_duet_1 15 rfl rfl)
theorem dX0_duet_38 : decode cX0_duet 38 = .ok (.ifCond .ge 5, 3) := dk_156 0 5 (dk_at dksX0_duet_1 16 rfl rfl)
theorem dX0_duet_41 : decode cX0_duet 41 = .ok (.iload_n 3, 1) := dk_29 (dk_at dksX0_duet_1 19 rfl rfl)
theorem dX0_duet_42 : decode cX0_duet 42 = .ok (.ireturn, 1) := dk_172 (dk_at dksX0_duet_1 20 rfl rfl)
theorem dX0_duet_43 : decode cX0_duet 43 = .ok (.aload_n 0, 1) := dk_42 (dk_at dksX0_duet_1 21 rfl rfl)
theorem dX0_duet_44 : decode cX0_duet 44 = .ok (.getfield 76, 3) := dk_180 0 76 (dk_at dksX0_duet_2 0 rfl rfl)
theorem dX0_duet_47 : decode cX0_duet 47 = .ok (.aload_n 0, 1) := dk_42 (dk_at dksX0_duet_2 3 rfl rfl)
theorem dX0_duet_48 : decode cX0_duet 48 = .ok (.getfield 51, 3) := dk_180 0 51 (dk_at dksX0_duet_2 4 rfl rfl)
theorem dX0_duet_51 : decode cX0_duet 51 = .ok (.invokevirtual 277, 3) := dk_182 1 21 (dk_at dksX0_duet_2 7 rfl rfl)
theorem dX0_duet_54 : decode cX0_duet 54 = .ok (.aload_n 0, 1) := dk_42 (dk_at dksX0_duet_2 10 rfl rfl)
theorem dX0_duet_55 : decode cX0_duet 55 = .ok (.getfield 79, 3) := dk_180 0 79 (dk_at dksX0_duet_2 11 rfl rfl)
theorem dX0_duet_58 : decode cX0_duet 58 = .ok (.aload_n 0, 1) := dk_42 (dk_at dksX0_duet_2 14 rfl rfl)
theorem dX0_duet_59 : decode cX0_duet 59 = .ok (.getfield 72, 3) := dk_180 0 72 (dk_at dksX0_duet_2 15 rfl rfl)
theorem dX0_duet_62 : decode cX0_duet 62 = .ok (.iload_n 1, 1) := dk_27 (dk_at dksX0_duet_2 18 rfl rfl)
theorem dX0_duet_63 : decode cX0_duet 63 = .ok (.aaload, 1) := dk_50 (dk_at dksX0_duet_2 19 rfl rfl)
theorem dX0_duet_64 : decode cX0_duet 64 = .ok (.getfield 276, 3) := dk_180 1 20 (dk_at dksX0_duet_2 20 rfl rfl)
theorem dX0_duet_67 : decode cX0_duet 67 = .ok (.invokevirtual 277, 3) := dk_182 1 21 (dk_at dksX0_duet_3 0 rfl rfl)
theorem dX0_duet_70 : decode cX0_duet 70 = .ok (.aload_n 0, 1) := dk_42 (dk_at dksX0_duet_3 3 rfl rfl)
theorem dX0_duet_71 : decode cX0_duet 71 = .ok (.getfield 32, 3) := dk_180 0 32 (dk_at dksX0_duet_3 4 rfl rfl)
theorem dX0_duet_74 : decode cX0_duet 74 = .ok (.iload_n 2, 1) := dk_28 (dk_at dksX0_duet_3 7 rfl rfl)
theorem dX0_duet_75 : decode cX0_duet 75 = .ok (.aaload, 1) := dk_50 (dk_at dksX0_duet_3 8 rfl rfl)
theorem dX0_duet_76 : decode cX0_duet 76 = .ok (.astore 4, 2) := dk_58 4 (dk_at dksX0_duet_3 9 rfl rfl)
theorem dX0_duet_78 : decode cX0_duet 78 = .ok (.iconst 0, 1) := dk_3 (dk_at dksX0_duet_3 11 rfl rfl)
theorem dX0_duet_79 : decode cX0_duet 79 = .ok (.istore 5, 2) := dk_54 5 (dk_at dksX0_duet_3 12 rfl rfl)
theorem dX0_duet_81 : decode cX0_duet 81 = .ok (.iload 5, 2) := dk_21 5 (dk_at dksX0_duet_3 14 rfl rfl)
theorem dX0_duet_83 : decode cX0_duet 83 = .ok (.aload 4, 2) := dk_25 4 (dk_at dksX0_duet_3 16 rfl rfl)
theorem dX0_duet_85 : decode cX0_duet 85 = .ok (.arraylength, 1) := dk_190 (dk_at dksX0_duet_3 18 rfl rfl)
theorem dX0_duet_86 : decode cX0_duet 86 = .ok (.if_icmp .ge 70, 3) := dk_162 0 70 (dk_at dksX0_duet_3 19 rfl rfl)
theorem dX0_duet_89 : decode cX0_duet 89 = .ok (.aload_n 0, 1) := dk_42 (dk_at dksX0_duet_3 22 rfl rfl)
theorem dX0_duet_90 : decode cX0_duet 90 = .ok (.getfield 44, 3) := dk_180 0 44 (dk_at dksX0_duet_4 0 rfl rfl)
theorem dX0_duet_93 : decode cX0_duet 93 = .ok (.aload 4, 2) := dk_25 4 (dk_at dksX0_duet_4 3 rfl rfl)
theorem dX0_duet_95 : decode cX0_duet 95 = .ok (.iload 5, 2) := dk_21 5 (dk_at dksX0_duet_4 5 rfl rfl)
theorem dX0_duet_97 : decode cX0_duet 97 = .ok (.iaload, 1) := dk_46 (dk_at dksX0_duet_4 7 rfl rfl)
theorem dX0_duet_98 : decode cX0_duet 98 = .ok (.aaload, 1) := dk_50 (dk_at dksX0_duet_4 8 rfl rfl)
theorem dX0_duet_99 : decode cX0_duet 99 = .ok (.iload 5, 2) := dk_21 5 (dk_at dksX0_duet_4 9 rfl rfl)
theorem dX0_duet_101 : decode cX0_duet 101 = .ok (.iconst 2, 1) := dk_5 (dk_at dksX0_duet_4 11 rfl rfl)
theorem dX0_duet_102 : decode cX0_duet 102 = .ok (.irem, 1) := dk_112 (dk_at dksX0_duet_4 12 rfl rfl)
theorem dX0_duet_103 : decode cX0_duet 103 = .ok (.ifCond .ne 10, 3) := dk_154 0 10 (dk_at dksX0_duet_4 13 rfl rfl)
theorem dX0_duet_106 : decode cX0_duet 106 = .ok (.aload_n 0, 1) := dk_42 (dk_at dksX0_duet_4 16 rfl rfl)
theorem dX0_duet_107 : decode cX0_duet 107 = .ok (.getfield 76, 3) := dk_180 0 76 (dk_at dksX0_duet_4 17 rfl rfl)
theorem dX0_duet_110 : decode cX0_duet 110 = .ok (.goto 7, 3) := dk_167 0 7 (dk_at dksX0_duet_4 20 rfl rfl)
theorem dX0_duet_113 : decode cX0_duet 113 = .ok (.aload_n 0, 1) := dk_42 (dk_at dksX0_duet_4 23 rfl rfl)
theorem dX0_duet_114 : decode cX0_duet 114 = .ok (.getfield 79, 3) := dk_180 0 79 (dk_at dksX0_duet_5 0 rfl rfl)
theorem dX0_duet_117 : decode cX0_duet 117 = .ok (.invokevirtual 212, 3) := dk_182 0 212 (dk_at dksX0_duet_5 3 rfl rfl)
theorem dX0_duet_120 : decode cX0_duet 120 = .ok (.ifCond .eq 36, 3) := dk_153 0 36 (dk_at dksX0_duet_5 6 rfl rfl)
theorem dX0_duet_123 : decode cX0_duet 123 = .ok (.aload_n 0, 1) := dk_42 (dk_at dksX0_duet_5 9 rfl rfl)
theorem dX0_duet_124 : decode cX0_duet 124 = .ok (.iload 5, 2) := dk_21 5 (dk_at dksX0_duet_5 10 rfl rfl)
theorem dX0_duet_126 : decode cX0_duet 126 = .ok (.iconst 2, 1) := dk_5 (dk_at dksX0_duet_5 12 rfl rfl)
theorem dX0_duet_127 : decode cX0_duet 127 = .ok (.irem, 1) := dk_112 (dk_at dksX0_duet_5 13 rfl rfl)
theorem dX0_duet_128 : decode cX0_duet 128 = .ok (.ifCond .ne 10, 3) := dk_154 0 10 (dk_at dksX0_duet_5 14 rfl rfl)
theorem dX0_duet_131 : decode cX0_duet 131 = .ok (.aload_n 0, 1) := dk_42 (dk_at dksX0_duet_5 17 rfl rfl)
theorem dX0_duet_132 : decode cX0_duet 132 = .ok (.getfield 76, 3) := dk_180 0 76 (dk_at dksX0_duet_5 18 rfl rfl)
theorem dX0_duet_135 : decode cX0_duet 135 = .ok (.goto 7, 3) := dk_167 0 7 (dk_at dksX0_duet_5 21 rfl rfl)
theorem dX0_duet_138 : decode cX0_duet 138 = .ok (.aload_n 0, 1) := dk_42 (dk_at dksX0_duet_6 0 rfl rfl)
theorem dX0_duet_139 : decode cX0_duet 139 = .ok (.getfield 79, 3) := dk_180 0 79 (dk_at dksX0_duet_6 1 rfl rfl)
theorem dX0_duet_142 : decode cX0_duet 142 = .ok (.aload 4, 2) := dk_25 4 (dk_at dksX0_duet_6 4 rfl rfl)
theorem dX0_duet_144 : decode cX0_duet 144 = .ok (.iload 5, 2) := dk_21 5 (dk_at dksX0_duet_6 6 rfl rfl)
theorem dX0_duet_146 : decode cX0_duet 146 = .ok (.iaload, 1) := dk_46 (dk_at dksX0_duet_6 8 rfl rfl)
theorem dX0_duet_147 : decode cX0_duet 147 = .ok (.invokevirtual 251, 3) := dk_182 0 251 (dk_at dksX0_duet_6 9 rfl rfl)
theorem dX0_duet_150 : decode cX0_duet 150 = .ok (.iinc 5 1, 3) := dk_132 5 1 (dk_at dksX0_duet_6 12 rfl rfl)
theorem dX0_duet_153 : decode cX0_duet 153 = .ok (.goto (-72), 3) := dk_167 255 184 (dk_at dksX0_duet_6 15 rfl rfl)
theorem dX0_duet_156 : decode cX0_duet 156 = .ok (.iload 5, 2) := dk_21 5 (dk_at dksX0_duet_6 18 rfl rfl)
theorem dX0_duet_158 : decode cX0_duet 158 = .ok (.ireturn, 1) := dk_172 (dk_at dksX0_duet_6 20 rfl rfl)
abbrev cX0_most : ByteArray := prog_1_method_59_code
def yX0_most : MethodName := ⟨RX0, "most", "(I)I"⟩
def dkwX0_most_2 : List UInt8 := [182, 1, 54, 42, 27, 42, 180, 0, 96, 42, 180, 1, 43, 182, 1, 39, 172]
abbrev dktX0_most_2 : List UInt8 := dkwX0_most_2 ++ []
def dkwX0_most_1 : List UInt8 := [42, 180, 0, 89, 3, 50, 42, 180, 0, 51, 182, 1, 21, 42, 3, 4, 42, 180, 0, 191, 120, 4, 100]
abbrev dktX0_most_1 : List UInt8 := dkwX0_most_1 ++ dktX0_most_2
def dkwX0_most_0 : List UInt8 := [27, 184, 0, 109, 154, 0, 5, 2, 172, 42, 180, 0, 191, 154, 0, 6, 16, 252, 172, 42, 3, 181, 1, 43]
abbrev dktX0_most_0 : List UInt8 := dkwX0_most_0 ++ dktX0_most_1
theorem dksX0_most_0 : cX0_most.data.toList.drop 0 = dktX0_most_0 := by decide +kernel
theorem dksX0_most_1 : cX0_most.data.toList.drop 24 = dktX0_most_1 := dk_seg dksX0_most_0 24 rfl rfl
theorem dksX0_most_2 : cX0_most.data.toList.drop 47 = dktX0_most_2 := dk_seg dksX0_most_1 23 rfl rfl
theorem dX0_most_0 : decode cX0_most 0 = .ok (.iload_n 1, 1) := dk_27 (dk_at dksX0_most_0 0 rfl rfl)
theorem dX0_most_1 : decode cX0_most 1 = .ok (.invokestatic 109, 3) := dk_184 0 109 (dk_at dksX0_most_0 1 rfl rfl)
theorem dX0_most_4 : decode cX0_most 4 = .ok (.ifCond .ne 5, 3) := dk_154 0 5 (dk_at dksX0_most_0 4 rfl rfl)
theorem dX0_most_7 : decode cX0_most 7 = .ok (.iconst (-1), 1) := dk_2 (dk_at dksX0_most_0 7 rfl rfl)
theorem dX0_most_8 : decode cX0_most 8 = .ok (.ireturn, 1) := dk_172 (dk_at dksX0_most_0 8 rfl rfl)
theorem dX0_most_9 : decode cX0_most 9 = .ok (.aload_n 0, 1) := dk_42 (dk_at dksX0_most_0 9 rfl rfl)
theorem dX0_most_10 : decode cX0_most 10 = .ok (.getfield 191, 3) := dk_180 0 191 (dk_at dksX0_most_0 10 rfl rfl)
theorem dX0_most_13 : decode cX0_most 13 = .ok (.ifCond .ne 6, 3) := dk_154 0 6 (dk_at dksX0_most_0 13 rfl rfl)
theorem dX0_most_16 : decode cX0_most 16 = .ok (.bipush (-4), 2) := dk_16 252 (dk_at dksX0_most_0 16 rfl rfl)
theorem dX0_most_18 : decode cX0_most 18 = .ok (.ireturn, 1) := dk_172 (dk_at dksX0_most_0 18 rfl rfl)
theorem dX0_most_19 : decode cX0_most 19 = .ok (.aload_n 0, 1) := dk_42 (dk_at dksX0_most_0 19 rfl rfl)
theorem dX0_most_20 : decode cX0_most 20 = .ok (.iconst 0, 1) := dk_3 (dk_at dksX0_most_0 20 rfl rfl)
theorem dX0_most_21 : decode cX0_most 21 = .ok (.putfield 299, 3) := dk_181 1 43 (dk_at dksX0_most_0 21 rfl rfl)
theorem dX0_most_24 : decode cX0_most 24 = .ok (.aload_n 0, 1) := dk_42 (dk_at dksX0_most_1 0 rfl rfl)
theorem dX0_most_25 : decode cX0_most 25 = .ok (.getfield 89, 3) := dk_180 0 89 (dk_at dksX0_most_1 1 rfl rfl)
theorem dX0_most_28 : decode cX0_most 28 = .ok (.iconst 0, 1) := dk_3 (dk_at dksX0_most_1 4 rfl rfl)
theorem dX0_most_29 : decode cX0_most 29 = .ok (.aaload, 1) := dk_50 (dk_at dksX0_most_1 5 rfl rfl)
theorem dX0_most_30 : decode cX0_most 30 = .ok (.aload_n 0, 1) := dk_42 (dk_at dksX0_most_1 6 rfl rfl)
theorem dX0_most_31 : decode cX0_most 31 = .ok (.getfield 51, 3) := dk_180 0 51 (dk_at dksX0_most_1 7 rfl rfl)
theorem dX0_most_34 : decode cX0_most 34 = .ok (.invokevirtual 277, 3) := dk_182 1 21 (dk_at dksX0_most_1 10 rfl rfl)
theorem dX0_most_37 : decode cX0_most 37 = .ok (.aload_n 0, 1) := dk_42 (dk_at dksX0_most_1 13 rfl rfl)
theorem dX0_most_38 : decode cX0_most 38 = .ok (.iconst 0, 1) := dk_3 (dk_at dksX0_most_1 14 rfl rfl)
theorem dX0_most_39 : decode cX0_most 39 = .ok (.iconst 1, 1) := dk_4 (dk_at dksX0_most_1 15 rfl rfl)
theorem dX0_most_40 : decode cX0_most 40 = .ok (.aload_n 0, 1) := dk_42 (dk_at dksX0_most_1 16 rfl rfl)
theorem dX0_most_41 : decode cX0_most 41 = .ok (.getfield 191, 3) := dk_180 0 191 (dk_at dksX0_most_1 17 rfl rfl)
theorem dX0_most_44 : decode cX0_most 44 = .ok (.ishl, 1) := dk_120 (dk_at dksX0_most_1 20 rfl rfl)
theorem dX0_most_45 : decode cX0_most 45 = .ok (.iconst 1, 1) := dk_4 (dk_at dksX0_most_1 21 rfl rfl)
theorem dX0_most_46 : decode cX0_most 46 = .ok (.isub, 1) := dk_100 (dk_at dksX0_most_1 22 rfl rfl)
theorem dX0_most_47 : decode cX0_most 47 = .ok (.invokevirtual 310, 3) := dk_182 1 54 (dk_at dksX0_most_2 0 rfl rfl)
theorem dX0_most_50 : decode cX0_most 50 = .ok (.aload_n 0, 1) := dk_42 (dk_at dksX0_most_2 3 rfl rfl)
theorem dX0_most_51 : decode cX0_most 51 = .ok (.iload_n 1, 1) := dk_27 (dk_at dksX0_most_2 4 rfl rfl)
theorem dX0_most_52 : decode cX0_most 52 = .ok (.aload_n 0, 1) := dk_42 (dk_at dksX0_most_2 5 rfl rfl)
theorem dX0_most_53 : decode cX0_most 53 = .ok (.getfield 96, 3) := dk_180 0 96 (dk_at dksX0_most_2 6 rfl rfl)
theorem dX0_most_56 : decode cX0_most 56 = .ok (.aload_n 0, 1) := dk_42 (dk_at dksX0_most_2 9 rfl rfl)
theorem dX0_most_57 : decode cX0_most 57 = .ok (.getfield 299, 3) := dk_180 1 43 (dk_at dksX0_most_2 10 rfl rfl)
theorem dX0_most_60 : decode cX0_most 60 = .ok (.invokevirtual 295, 3) := dk_182 1 39 (dk_at dksX0_most_2 13 rfl rfl)
theorem dX0_most_63 : decode cX0_most 63 = .ok (.ireturn, 1) := dk_172 (dk_at dksX0_most_2 16 rfl rfl)
abbrev cX0_mostOn : ByteArray := prog_1_method_58_code
def yX0_mostOn : MethodName := ⟨RX0, "mostOn", "(II)V"⟩
def dkwX0_mostOn_3 : List UInt8 := [27, 4, 96, 28, 4, 29, 120, 2, 130, 126, 182, 1, 54, 132, 3, 1, 167, 255, 199, 177]
abbrev dktX0_mostOn_3 : List UInt8 := dkwX0_mostOn_3 ++ []
def dkwX0_mostOn_2 : List UInt8 := [180, 0, 44, 29, 50, 42, 180, 0, 89, 27, 50, 182, 0, 212, 153, 0, 23, 42, 27, 29, 182, 1, 50, 42]
abbrev dktX0_mostOn_2 : List UInt8 := dkwX0_mostOn_2 ++ dktX0_mostOn_3
def dkwX0_mostOn_1 : List UInt8 := [184, 0, 130, 3, 62, 29, 42, 180, 0, 191, 162, 0, 55, 28, 29, 184, 1, 46, 153, 0, 41, 42]
abbrev dktX0_mostOn_1 : List UInt8 := dkwX0_mostOn_1 ++ dktX0_mostOn_2
def dkwX0_mostOn_0 : List UInt8 := [27, 42, 180, 1, 43, 164, 0, 22, 42, 27, 181, 1, 43, 42, 180, 0, 93, 3, 42, 180, 0, 96, 3, 27]
abbrev dktX0_mostOn_0 : List UInt8 := dkwX0_mostOn_0 ++ dktX0_mostOn_1
theorem dksX0_mostOn_0 : cX0_mostOn.data.toList.drop 0 = dktX0_mostOn_0 := by decide +kernel
theorem dksX0_mostOn_1 : cX0_mostOn.data.toList.drop 24 = dktX0_mostOn_1 := dk_seg dksX0_mostOn_0 24 rfl rfl
theorem dksX0_mostOn_2 : cX0_mostOn.data.toList.drop 46 = dktX0_mostOn_2 := dk_seg dksX0_mostOn_1 22 rfl rfl
theorem dksX0_mostOn_3 : cX0_mostOn.data.toList.drop 70 = dktX0_mostOn_3 := dk_seg dksX0_mostOn_2 24 rfl rfl
theorem dX0_mostOn_0 : decode cX0_mostOn 0 = .ok (.iload_n 1, 1) := dk_27 (dk_at dksX0_mostOn_0 0 rfl rfl)
theorem dX0_mostOn_1 : decode cX0_mostOn 1 = .ok (.aload_n 0, 1) := dk_42 (dk_at dksX0_mostOn_0 1 rfl rfl)
theorem dX0_mostOn_2 : decode cX0_mostOn 2 = .ok (.getfield 299, 3) := dk_180 1 43 (dk_at dksX0_mostOn_0 2 rfl rfl)
theorem dX0_mostOn_5 : decode cX0_mostOn 5 = .ok (.if_icmp .le 22, 3) := dk_164 0 22 (dk_at dksX0_mostOn_0 5 rfl rfl)
theorem dX0_mostOn_8 : decode cX0_mostOn 8 = .ok (.aload_n 0, 1) := dk_42 (dk_at dksX0_mostOn_0 8 rfl rfl)
theorem dX0_mostOn_9 : decode cX0_mostOn 9 = .ok (.iload_n 1, 1) := dk_27 (dk_at dksX0_mostOn_0 9 rfl rfl)
theorem dX0_mostOn_10 : decode cX0_mostOn 10 = .ok (.putfield 299, 3) := dk_181 1 43 (dk_at dksX0_mostOn_0 10 rfl rfl)
theorem dX0_mostOn_13 : decode cX0_mostOn 13 = .ok (.aload_n 0, 1) := dk_42 (dk_at dksX0_mostOn_0 13 rfl rfl)
theorem dX0_mostOn_14 : decode cX0_mostOn 14 = .ok (.getfield 93, 3) := dk_180 0 93 (dk_at dksX0_mostOn_0 14 rfl rfl)
theorem dX0_mostOn_17 : decode cX0_mostOn 17 = .ok (.iconst 0, 1) := dk_3 (dk_at dksX0_mostOn_0 17 rfl rfl)
theorem dX0_mostOn_18 : decode cX0_mostOn 18 = .ok (.aload_n 0, 1) := dk_42 (dk_at dksX0_mostOn_0 18 rfl rfl)
theorem dX0_mostOn_19 : decode cX0_mostOn 19 = .ok (.getfield 96, 3) := dk_180 0 96 (dk_at dksX0_mostOn_0 19 rfl rfl)
theorem dX0_mostOn_22 : decode cX0_mostOn 22 = .ok (.iconst 0, 1) := dk_3 (dk_at dksX0_mostOn_0 22 rfl rfl)
theorem dX0_mostOn_23 : decode cX0_mostOn 23 = .ok (.iload_n 1, 1) := dk_27 (dk_at dksX0_mostOn_0 23 rfl rfl)
theorem dX0_mostOn_24 : decode cX0_mostOn 24 = .ok (.invokestatic 130, 3) := dk_184 0 130 (dk_at dksX0_mostOn_1 0 rfl rfl)
theorem dX0_mostOn_27 : decode cX0_mostOn 27 = .ok (.iconst 0, 1) := dk_3 (dk_at dksX0_mostOn_1 3 rfl rfl)
theorem dX0_mostOn_28 : decode cX0_mostOn 28 = .ok (.istore_n 3, 1) := dk_62 (dk_at dksX0_mostOn_1 4 rfl rfl)
theorem dX0_mostOn_29 : decode cX0_mostOn 29 = .ok (.iload_n 3, 1) := dk_29 (dk_at dksX0_mostOn_1 5 rfl rfl)
theorem dX0_mostOn_30 : decode cX0_mostOn 30 = .ok (.aload_n 0, 1) := dk_42 (dk_at dksX0_mostOn_1 6 rfl rfl)
theorem dX0_mostOn_31 : decode cX0_mostOn 31 = .ok (.getfield 191, 3) := dk_180 0 191 (dk_at dksX0_mostOn_1 7 rfl rfl)
theorem dX0_mostOn_34 : decode cX0_mostOn 34 = .ok (.if_icmp .ge 55, 3) := dk_162 0 55 (dk_at dksX0_mostOn_1 10 rfl rfl)
theorem dX0_mostOn_37 : decode cX0_mostOn 37 = .ok (.iload_n 2, 1) := dk_28 (dk_at dksX0_mostOn_1 13 rfl rfl)
theorem dX0_mostOn_38 : decode cX0_mostOn 38 = .ok (.iload_n 3, 1) := dk_29 (dk_at dksX0_mostOn_1 14 rfl rfl)
theorem dX0_mostOn_39 : decode cX0_mostOn 39 = .ok (.invokestatic 302, 3) := dk_184 1 46 (dk_at dksX0_mostOn_1 15 rfl rfl)
theorem dX0_mostOn_42 : decode cX0_mostOn 42 = .ok (.ifCond .eq 41, 3) := dk_153 0 41 (dk_at dksX0_mostOn_1 18 rfl rfl)
theorem dX0_mostOn_45 : decode cX0_mostOn 45 = .ok (.aload_n 0, 1) := dk_42 (dk_at dksX0_mostOn_1 21 rfl rfl)
theorem dX0_mostOn_46 : decode cX0_mostOn 46 = .ok (.getfield 44, 3) := dk_180 0 44 (dk_at dksX0_mostOn_2 0 rfl rfl)
theorem dX0_mostOn_49 : decode cX0_mostOn 49 = .ok (.iload_n 3, 1) := dk_29 (dk_at dksX0_mostOn_2 3 rfl rfl)
theorem dX0_mostOn_50 : decode cX0_mostOn 50 = .ok (.aaload, 1) := dk_50 (dk_at dksX0_mostOn_2 4 rfl rfl)
theorem dX0_mostOn_51 : decode cX0_mostOn 51 = .ok (.aload_n 0, 1) := dk_42 (dk_at dksX0_mostOn_2 5 rfl rfl)
theorem dX0_mostOn_52 : decode cX0_mostOn 52 = .ok (.getfield 89, 3) := dk_180 0 89 (dk_at dksX0_mostOn_2 6 rfl rfl)
theorem dX0_mostOn_55 : decode cX0_mostOn 55 = .ok (.iload_n 1, 1) := dk_27 (dk_at dksX0_mostOn_2 9 rfl rfl)
theorem dX0_mostOn_56 : decode cX0_mostOn 56 = .ok (.aaload, 1) := dk_50 (dk_at dksX0_mostOn_2 10 rfl rfl)
theorem dX0_mostOn_57 : decode cX0_mostOn 57 = .ok (.invokevirtual 212, 3) := dk_182 0 212 (dk_at dksX0_mostOn_2 11 rfl rfl)
theorem dX0_mostOn_60 : decode cX0_mostOn 60 = .ok (.ifCond .eq 23, 3) := dk_153 0 23 (dk_at dksX0_mostOn_2 14 rfl rfl)
theorem dX0_mostOn_63 : decode cX0_mostOn 63 = .ok (.aload_n 0, 1) := dk_42 (dk_at dksX0_mostOn_2 17 rfl rfl)
theorem dX0_mostOn_64 : decode cX0_mostOn 64 = .ok (.iload_n 1, 1) := dk_27 (dk_at dksX0_mostOn_2 18 rfl rfl)
theorem dX0_mostOn_65 : decode cX0_mostOn 65 = .ok (.iload_n 3, 1) := dk_29 (dk_at dksX0_mostOn_2 19 rfl rfl)
theorem dX0_mostOn_66 : decode cX0_mostOn 66 = .ok (.invokevirtual 306, 3) := dk_182 1 50 (dk_at dksX0_mostOn_2 20 rfl rfl)
theorem dX0_mostOn_69 : decode cX0_mostOn 69 = .ok (.aload_n 0, 1) := dk_42 (dk_at dksX0_mostOn_2 23 rfl rfl)
theorem dX0_mostOn_70 : decode cX0_mostOn 70 = .ok (.iload_n 1, 1) := dk_27 (dk_at dksX0_mostOn_3 0 rfl rfl)
theorem dX0_mostOn_71 : decode cX0_mostOn 71 = .ok (.iconst 1, 1) := dk_4 (dk_at dksX0_mostOn_3 1 rfl rfl)
theorem dX0_mostOn_72 : decode cX0_mostOn 72 = .ok (.iadd, 1) := dk_96 (dk_at dksX0_mostOn_3 2 rfl rfl)
theorem dX0_mostOn_73 : decode cX0_mostOn 73 = .ok (.iload_n 2, 1) := dk_28 (dk_at dksX0_mostOn_3 3 rfl rfl)
theorem dX0_mostOn_74 : decode cX0_mostOn 74 = .ok (.iconst 1, 1) := dk_4 (dk_at dksX0_mostOn_3 4 rfl rfl)
theorem dX0_mostOn_75 : decode cX0_mostOn 75 = .ok (.iload_n 3, 1) := dk_29 (dk_at dksX0_mostOn_3 5 rfl rfl)
theorem dX0_mostOn_76 : decode cX0_mostOn 76 = .ok (.ishl, 1) := dk_120 (dk_at dksX0_mostOn_3 6 rfl rfl)
theorem dX0_mostOn_77 : decode cX0_mostOn 77 = .ok (.iconst (-1), 1) := dk_2 (dk_at dksX0_mostOn_3 7 rfl rfl)
theorem dX0_mostOn_78 : decode cX0_mostOn 78 = .ok (.ixor, 1) := dk_130 (dk_at dksX0_mostOn_3 8 rfl rfl)
theorem dX0_mostOn_79 : decode cX0_mostOn 79 = .ok (.iand, 1) := dk_126 (dk_at dksX0_mostOn_3 9 rfl rfl)
theorem dX0_mostOn_80 : decode cX0_mostOn 80 = .ok (.invokevirtual 310, 3) := dk_182 1 54 (dk_at dksX0_mostOn_3 10 rfl rfl)
theorem dX0_mostOn_83 : decode cX0_mostOn 83 = .ok (.iinc 3 1, 3) := dk_132 3 1 (dk_at dksX0_mostOn_3 13 rfl rfl)
theorem dX0_mostOn_86 : decode cX0_mostOn 86 = .ok (.goto (-57), 3) := dk_167 255 199 (dk_at dksX0_mostOn_3 16 rfl rfl)
theorem dX0_mostOn_89 : decode cX0_mostOn 89 = .ok (.return_, 1) := dk_177 (dk_at dksX0_mostOn_3 19 rfl rfl)
abbrev cX0_has : ByteArray := prog_1_method_2_code
def yX0_has : MethodName := ⟨RX0, "has", "(II)Z"⟩
def dkwX0_has_0 : List UInt8 := [26, 27, 122, 4, 126, 4, 160, 0, 7, 4, 167, 0, 4, 3, 172]
abbrev dktX0_has_0 : List UInt8 := dkwX0_has_0 ++ []
theorem dksX0_has_0 : cX0_has.data.toList.drop 0 = dktX0_has_0 := by decide +kernel
theorem dX0_has_0 : decode cX0_has 0 = .ok (.iload_n 0, 1) := dk_26 (dk_at dksX0_has_0 0 rfl rfl)
theorem dX0_has_1 : decode cX0_has 1 = .ok (.iload_n 1, 1) := dk_27 (dk_at dksX0_has_0 1 rfl rfl)
theorem dX0_has_2 : decode cX0_has 2 = .ok (.ishr, 1) := dk_122 (dk_at dksX0_has_0 2 rfl rfl)
theorem dX0_has_3 : decode cX0_has 3 = .ok (.iconst 1, 1) := dk_4 (dk_at dksX0_has_0 3 rfl rfl)
theorem dX0_has_4 : decode cX0_has 4 = .ok (.iand, 1) := dk_126 (dk_at dksX0_has_0 4 rfl rfl)
theorem dX0_has_5 : decode cX0_has 5 = .ok (.iconst 1, 1) := dk_4 (dk_at dksX0_has_0 5 rfl rfl)
theorem dX0_has_6 : decode cX0_has 6 = .ok (.if_icmp .ne 7, 3) := dk_160 0 7 (dk_at dksX0_has_0 6 rfl rfl)
theorem dX0_has_9 : decode cX0_has 9 = .ok (.iconst 1, 1) := dk_4 (dk_at dksX0_has_0 9 rfl rfl)
theorem dX0_has_10 : decode cX0_has 10 = .ok (.goto 4, 3) := dk_167 0 4 (dk_at dksX0_has_0 10 rfl rfl)
theorem dX0_has_13 : decode cX0_has 13 = .ok (.iconst 0, 1) := dk_3 (dk_at dksX0_has_0 13 rfl rfl)
theorem dX0_has_14 : decode cX0_has 14 = .ok (.ireturn, 1) := dk_172 (dk_at dksX0_has_0 14 rfl rfl)
abbrev cX0_goDeep : ByteArray := prog_1_method_57_code
def yX0_goDeep : MethodName := ⟨RX0, "goDeep", "(II)V"⟩
def dkwX0_goDeep_1 : List UInt8 := [96, 50, 28, 182, 0, 251, 42, 180, 0, 93, 27, 28, 79, 177]
abbrev dktX0_goDeep_1 : List UInt8 := dkwX0_goDeep_1 ++ []
def dkwX0_goDeep_0 : List UInt8 := [42, 180, 0, 89, 27, 4, 96, 50, 42, 180, 0, 89, 27, 50, 182, 1, 21, 42, 42, 180, 0, 89, 27, 4]
abbrev dktX0_goDeep_0 : List UInt8 := dkwX0_goDeep_0 ++ dktX0_goDeep_1
theorem dksX0_goDeep_0 : cX0_goDeep.data.toList.drop 0 = dktX0_goDeep_0 := by decide +kernel
theorem dksX0_goDeep_1 : cX0_goDeep.data.toList.drop 24 = dktX0_goDeep_1 := dk_seg dksX0_goDeep_0 24 rfl rfl
theorem dX0_goDeep_0 : decode cX0_goDeep 0 = .ok (.aload_n 0, 1) := dk_42 (dk_at dksX0_goDeep_0 0 rfl rfl)
theorem dX0_goDeep_1 : decode cX0_goDeep 1 = .ok (.getfield 89, 3) := dk_180 0 89 (dk_at dksX0_goDeep_0 1 rfl rfl)
theorem dX0_goDeep_4 : decode cX0_goDeep 4 = .ok (.iload_n 1, 1) := dk_27 (dk_at dksX0_goDeep_0 4 rfl rfl)
theorem dX0_goDeep_5 : decode cX0_goDeep 5 = .ok (.iconst 1, 1) := dk_4 (dk_at dksX0_goDeep_0 5 rfl rfl)
theorem dX0_goDeep_6 : decode cX0_goDeep 6 = .ok (.iadd, 1) := dk_96 (dk_at dksX0_goDeep_0 6 rfl rfl)
theorem dX0_goDeep_7 : decode cX0_goDeep 7 = .ok (.aaload, 1) := dk_50 (dk_at dksX0_goDeep_0 7 rfl rfl)
theorem dX0_goDeep_8 : decode cX0_goDeep 8 = .ok (.aload_n 0, 1) := dk_42 (dk_at dksX0_goDeep_0 8 rfl rfl)
theorem dX0_goDeep_9 : decode cX0_goDeep 9 = .ok (.getfield 89, 3) := dk_180 0 89 (dk_at dksX0_goDeep_0 9 rfl rfl)
theorem dX0_goDeep_12 : decode cX0_goDeep 12 = .ok (.iload_n 1, 1) := dk_27 (dk_at dksX0_goDeep_0 12 rfl rfl)
theorem dX0_goDeep_13 : decode cX0_goDeep 13 = .ok (.aaload, 1) := dk_50 (dk_at dksX0_goDeep_0 13 rfl rfl)
theorem dX0_goDeep_14 : decode cX0_goDeep 14 = .ok (.invokevirtual 277, 3) := dk_182 1 21 (dk_at dksX0_goDeep_0 14 rfl rfl)
theorem dX0_goDeep_17 : decode cX0_goDeep 17 = .ok (.aload_n 0, 1) := dk_42 (dk_at dksX0_goDeep_0 17 rfl rfl)
theorem dX0_goDeep_18 : decode cX0_goDeep 18 = .ok (.aload_n 0, 1) := dk_42 (dk_at dksX0_goDeep_0 18 rfl rfl)
theorem dX0_goDeep_19 : decode cX0_goDeep 19 = .ok (.getfield 89, 3) := dk_180 0 89 (dk_at dksX0_goDeep_0 19 rfl rfl)
theorem dX0_goDeep_22 : decode cX0_goDeep 22 = .ok (.iload_n 1, 1) := dk_27 (dk_at dksX0_goDeep_0 22 rfl rfl)
theorem dX0_goDeep_23 : decode cX0_goDeep 23 = .ok (.iconst 1, 1) := dk_4 (dk_at dksX0_goDeep_0 23 rfl rfl)
theorem dX0_goDeep_24 : decode cX0_goDeep 24 = .ok (.iadd, 1) := dk_96 (dk_at dksX0_goDeep_1 0 rfl rfl)
theorem dX0_goDeep_25 : decode cX0_goDeep 25 = .ok (.aaload, 1) := dk_50 (dk_at dksX0_goDeep_1 1 rfl rfl)
theorem dX0_goDeep_26 : decode cX0_goDeep 26 = .ok (.iload_n 2, 1) := dk_28 (dk_at dksX0_goDeep_1 2 rfl rfl)
theorem dX0_goDeep_27 : decode cX0_goDeep 27 = .ok (.invokevirtual 251, 3) := dk_182 0 251 (dk_at dksX0_goDeep_1 3 rfl rfl)
theorem dX0_goDeep_30 : decode cX0_goDeep 30 = .ok (.aload_n 0, 1) := dk_42 (dk_at dksX0_goDeep_1 6 rfl rfl)
theorem dX0_goDeep_31 : decode cX0_goDeep 31 = .ok (.getfield 93, 3) := dk_180 0 93 (dk_at dksX0_goDeep_1 7 rfl rfl)
theorem dX0_goDeep_34 : decode cX0_goDeep 34 = .ok (.iload_n 1, 1) := dk_27 (dk_at dksX0_goDeep_1 10 rfl rfl)
theorem dX0_goDeep_35 : decode cX0_goDeep 35 = .ok (.iload_n 2, 1) := dk_28 (dk_at dksX0_goDeep_1 11 rfl rfl)
theorem dX0_goDeep_36 : decode cX0_goDeep 36 = .ok (.iastore, 1) := dk_79 (dk_at dksX0_goDeep_1 12 rfl rfl)
theorem dX0_goDeep_37 : decode cX0_goDeep 37 = .ok (.return_, 1) := dk_177 (dk_at dksX0_goDeep_1 13 rfl rfl)
abbrev cX0_best : ByteArray := prog_1_method_61_code
def yX0_best : MethodName := ⟨RX0, "best", "(II)I"⟩
def dkwX0_best_3 : List UInt8 := [182, 1, 39, 87, 42, 180, 1, 57, 172]
abbrev dktX0_best_3 : List UInt8 := dkwX0_best_3 ++ []
def dkwX0_best_2 : List UInt8 := [42, 3, 27, 182, 1, 60, 42, 180, 1, 57, 156, 0, 6, 16, 247, 172, 42, 28, 42, 180, 0, 96, 27]
abbrev dktX0_best_2 : List UInt8 := dkwX0_best_2 ++ dktX0_best_3
def dkwX0_best_1 : List UInt8 := [154, 0, 6, 16, 252, 172, 42, 2, 181, 1, 57, 42, 180, 0, 89, 3, 50, 42, 180, 0, 51, 182, 1, 21]
abbrev dktX0_best_1 : List UInt8 := dkwX0_best_1 ++ dktX0_best_2
def dkwX0_best_0 : List UInt8 := [27, 3, 8, 184, 0, 105, 153, 0, 10, 28, 184, 0, 109, 154, 0, 5, 2, 172, 42, 180, 0, 191]
abbrev dktX0_best_0 : List UInt8 := dkwX0_best_0 ++ dktX0_best_1
theorem dksX0_best_0 : cX0_best.data.toList.drop 0 = dktX0_best_0 := by decide +kernel
theorem dksX0_best_1 : cX0_best.data.toList.drop 22 = dktX0_best_1 := dk_seg dksX0_best_0 22 rfl rfl
theorem dksX0_best_2 : cX0_best.data.toList.drop 46 = dktX0_best_2 := dk_seg dksX0_best_1 24 rfl rfl
theorem dksX0_best_3 : cX0_best.data.toList.drop 69 = dktX0_best_3 := dk_seg dksX0_best_2 23 rfl rfl
theorem dX0_best_0 : decode cX0_best 0 = .ok (.iload_n 1, 1) := dk_27 (dk_at dksX0_best_0 0 rfl rfl)
theorem dX0_best_1 : decode cX0_best 1 = .ok (.iconst 0, 1) := dk_3 (dk_at dksX0_best_0 1 rfl rfl)
theorem dX0_best_2 : decode cX0_best 2 = .ok (.iconst 5, 1) := dk_8 (dk_at dksX0_best_0 2 rfl rfl)
theorem dX0_best_3 : decode cX0_best 3 = .ok (.invokestatic 105, 3) := dk_184 0 105 (dk_at dksX0_best_0 3 rfl rfl)
theorem dX0_best_6 : decode cX0_best 6 = .ok (.ifCond .eq 10, 3) := dk_153 0 10 (dk_at dksX0_best_0 6 rfl rfl)
theorem dX0_best_9 : decode cX0_best 9 = .ok (.iload_n 2, 1) := dk_28 (dk_at dksX0_best_0 9 rfl rfl)
theorem dX0_best_10 : decode cX0_best 10 = .ok (.invokestatic 109, 3) := dk_184 0 109 (dk_at dksX0_best_0 10 rfl rfl)
theorem dX0_best_13 : decode cX0_best 13 = .ok (.ifCond .ne 5, 3) := dk_154 0 5 (dk_at dksX0_best_0 13 rfl rfl)
theorem dX0_best_16 : decode cX0_best 16 = .ok (.iconst (-1), 1) := dk_2 (dk_at dksX0_best_0 16 rfl rfl)
theorem dX0_best_17 : decode cX0_best 17 = .ok (.ireturn, 1) := dk_172 (dk_at dksX0_best_0 17 rfl rfl)
theorem dX0_best_18 : decode cX0_best 18 = .ok (.aload_n 0, 1) := dk_42 (dk_at dksX0_best_0 18 rfl rfl)
theorem dX0_best_19 : decode cX0_best 19 = .ok (.getfield 191, 3) := dk_180 0 191 (dk_at dksX0_best_0 19 rfl rfl)
theorem dX0_best_22 : decode cX0_best 22 = .ok (.ifCond .ne 6, 3) := dk_154 0 6 (dk_at dksX0_best_1 0 rfl rfl)
theorem dX0_best_25 : decode cX0_best 25 = .ok (.bipush (-4), 2) := dk_16 252 (dk_at dksX0_best_1 3 rfl rfl)
theorem dX0_best_27 : decode cX0_best 27 = .ok (.ireturn, 1) := dk_172 (dk_at dksX0_best_1 5 rfl rfl)
theorem dX0_best_28 : decode cX0_best 28 = .ok (.aload_n 0, 1) := dk_42 (dk_at dksX0_best_1 6 rfl rfl)
theorem dX0_best_29 : decode cX0_best 29 = .ok (.iconst (-1), 1) := dk_2 (dk_at dksX0_best_1 7 rfl rfl)
theorem dX0_best_30 : decode cX0_best 30 = .ok (.putfield 313, 3) := dk_181 1 57 (dk_at dksX0_best_1 8 rfl rfl)
theorem dX0_best_33 : decode cX0_best 33 = .ok (.aload_n 0, 1) := dk_42 (dk_at dksX0_best_1 11 rfl rfl)
theorem dX0_best_34 : decode cX0_best 34 = .ok (.getfield 89, 3) := dk_180 0 89 (dk_at dksX0_best_1 12 rfl rfl)
theorem dX0_best_37 : decode cX0_best 37 = .ok (.iconst 0, 1) := dk_3 (dk_at dksX0_best_1 15 rfl rfl)
theorem dX0_best_38 : decode cX0_best 38 = .ok (.aaload, 1) := dk_50 (dk_at dksX0_best_1 16 rfl rfl)
theorem dX0_best_39 : decode cX0_best 39 = .ok (.aload_n 0, 1) := dk_42 (dk_at dksX0_best_1 17 rfl rfl)
theorem dX0_best_40 : decode cX0_best 40 = .ok (.getfield 51, 3) := dk_180 0 51 (dk_at dksX0_best_1 18 rfl rfl)
theorem dX0_best_43 : decode cX0_best 43 = .ok (.invokevirtual 277, 3) := dk_182 1 21 (dk_at dksX0_best_1 21 rfl rfl)
theorem dX0_best_46 : decode cX0_best 46 = .ok (.aload_n 0, 1) := dk_42 (dk_at dksX0_best_2 0 rfl rfl)
theorem dX0_best_47 : decode cX0_best 47 = .ok (.iconst 0, 1) := dk_3 (dk_at dksX0_best_2 1 rfl rfl)
theorem dX0_best_48 : decode cX0_best 48 = .ok (.iload_n 1, 1) := dk_27 (dk_at dksX0_best_2 2 rfl rfl)
theorem dX0_best_49 : decode cX0_best 49 = .ok (.invokevirtual 316, 3) := dk_182 1 60 (dk_at dksX0_best_2 3 rfl rfl)
theorem dX0_best_52 : decode cX0_best 52 = .ok (.aload_n 0, 1) := dk_42 (dk_at dksX0_best_2 6 rfl rfl)
theorem dX0_best_53 : decode cX0_best 53 = .ok (.getfield 313, 3) := dk_180 1 57 (dk_at dksX0_best_2 7 rfl rfl)
theorem dX0_best_56 : decode cX0_best 56 = .ok (.ifCond .ge 6, 3) := dk_156 0 6 (dk_at dksX0_best_2 10 rfl rfl)
theorem dX0_best_59 : decode cX0_best 59 = .ok (.bipush (-9), 2) := dk_16 247 (dk_at dksX0_best_2 13 rfl rfl)
theorem dX0_best_61 : decode cX0_best 61 = .ok (.ireturn, 1) := dk_172 (dk_at dksX0_best_2 15 rfl rfl)
theorem dX0_best_62 : decode cX0_best 62 = .ok (.aload_n 0, 1) := dk_42 (dk_at dksX0_best_2 16 rfl rfl)
theorem dX0_best_63 : decode cX0_best 63 = .ok (.iload_n 2, 1) := dk_28 (dk_at dksX0_best_2 17 rfl rfl)
theorem dX0_best_64 : decode cX0_best 64 = .ok (.aload_n 0, 1) := dk_42 (dk_at dksX0_best_2 18 rfl rfl)
theorem dX0_best_65 : decode cX0_best 65 = .ok (.getfield 96, 3) := dk_180 0 96 (dk_at dksX0_best_2 19 rfl rfl)
theorem dX0_best_68 : decode cX0_best 68 = .ok (.iload_n 1, 1) := dk_27 (dk_at dksX0_best_2 22 rfl rfl)
theorem dX0_best_69 : decode cX0_best 69 = .ok (.invokevirtual 295, 3) := dk_182 1 39 (dk_at dksX0_best_3 0 rfl rfl)
theorem dX0_best_72 : decode cX0_best 72 = .ok (.pop, 1) := dk_87 (dk_at dksX0_best_3 3 rfl rfl)
theorem dX0_best_73 : decode cX0_best 73 = .ok (.aload_n 0, 1) := dk_42 (dk_at dksX0_best_3 4 rfl rfl)
theorem dX0_best_74 : decode cX0_best 74 = .ok (.getfield 313, 3) := dk_180 1 57 (dk_at dksX0_best_3 5 rfl rfl)
theorem dX0_best_77 : decode cX0_best 77 = .ok (.ireturn, 1) := dk_172 (dk_at dksX0_best_3 8 rfl rfl)
abbrev cX0_bestOn : ByteArray := prog_1_method_60_code
def yX0_bestOn : MethodName := ⟨RX0, "bestOn", "(II)V"⟩
def dkwX0_bestOn_4 : List UInt8 := [182, 1, 60, 132, 3, 1, 167, 255, 213, 177]
abbrev dktX0_bestOn_4 : List UInt8 := dkwX0_bestOn_4 ++ []
def dkwX0_bestOn_3 : List UInt8 := [50, 42, 180, 0, 89, 27, 50, 182, 0, 212, 153, 0, 17, 42, 27, 29, 182, 1, 50, 42, 27, 4, 96, 28]
abbrev dktX0_bestOn_3 : List UInt8 := dkwX0_bestOn_3 ++ dktX0_bestOn_4
def dkwX0_bestOn_2 : List UInt8 := [180, 0, 96, 3, 27, 184, 0, 130, 177, 3, 62, 29, 42, 180, 0, 191, 162, 0, 41, 42, 180, 0, 44, 29]
abbrev dktX0_bestOn_2 : List UInt8 := dkwX0_bestOn_2 ++ dktX0_bestOn_3
def dkwX0_bestOn_1 : List UInt8 := [16, 8, 46, 100, 62, 29, 42, 180, 1, 57, 164, 0, 22, 42, 29, 181, 1, 57, 42, 180, 0, 93, 3, 42]
abbrev dktX0_bestOn_1 : List UInt8 := dkwX0_bestOn_1 ++ dktX0_bestOn_2
def dkwX0_bestOn_0 : List UInt8 := [27, 28, 160, 0, 55, 42, 180, 0, 89, 27, 50, 180, 0, 194, 16, 8, 46, 42, 180, 0, 51, 180, 0, 194]
abbrev dktX0_bestOn_0 : List UInt8 := dkwX0_bestOn_0 ++ dktX0_bestOn_1
theorem dksX0_bestOn_0 : cX0_bestOn.data.toList.drop 0 = dktX0_bestOn_0 := by decide +kernel
theorem dksX0_bestOn_1 : cX0_bestOn.data.toList.drop 24 = dktX0_bestOn_1 := dk_seg dksX0_bestOn_0 24 rfl rfl
theorem dksX0_bestOn_2 : cX0_bestOn.data.toList.drop 48 = dktX0_bestOn_2 := dk_seg dksX0_bestOn_1 24 rfl rfl
theorem dksX0_bestOn_3 : cX0_bestOn.data.toList.drop 72 = dktX0_bestOn_3 := dk_seg dksX0_bestOn_2 24 rfl rfl
theorem dksX0_bestOn_4 : cX0_bestOn.data.toList.drop 96 = dktX0_bestOn_4 := dk_seg dksX0_bestOn_3 24 rfl rfl
theorem dX0_bestOn_0 : decode cX0_bestOn 0 = .ok (.iload_n 1, 1) := dk_27 (dk_at dksX0_bestOn_0 0 rfl rfl)
theorem dX0_bestOn_1 : decode cX0_bestOn 1 = .ok (.iload_n 2, 1) := dk_28 (dk_at dksX0_bestOn_0 1 rfl rfl)
theorem dX0_bestOn_2 : decode cX0_bestOn 2 = .ok (.if_icmp .ne 55, 3) := dk_160 0 55 (dk_at dksX0_bestOn_0 2 rfl rfl)
theorem dX0_bestOn_5 : decode cX0_bestOn 5 = .ok (.aload_n 0, 1) := dk_42 (dk_at dksX0_bestOn_0 5 rfl rfl)
theorem dX0_bestOn_6 : decode cX0_bestOn 6 = .ok (.getfield 89, 3) := dk_180 0 89 (dk_at dksX0_bestOn_0 6 rfl rfl)
theorem dX0_bestOn_9 : decode cX0_bestOn 9 = .ok (.iload_n 1, 1) := dk_27 (dk_at dksX0_bestOn_0 9 rfl rfl)
theorem dX0_bestOn_10 : decode cX0_bestOn 10 = .ok (.aaload, 1) := dk_50 (dk_at dksX0_bestOn_0 10 rfl rfl)
theorem dX0_bestOn_11 : decode cX0_bestOn 11 = .ok (.getfield 194, 3) := dk_180 0 194 (dk_at dksX0_bestOn_0 11 rfl rfl)
theorem dX0_bestOn_14 : decode cX0_bestOn 14 = .ok (.bipush 8, 2) := dk_16 8 (dk_at dksX0_bestOn_0 14 rfl rfl)
theorem dX0_bestOn_16 : decode cX0_bestOn 16 = .ok (.iaload, 1) := dk_46 (dk_at dksX0_bestOn_0 16 rfl rfl)
theorem dX0_bestOn_17 : decode cX0_bestOn 17 = .ok (.aload_n 0, 1) := dk_42 (dk_at dksX0_bestOn_0 17 rfl rfl)
theorem dX0_bestOn_18 : decode cX0_bestOn 18 = .ok (.getfield 51, 3) := dk_180 0 51 (dk_at dksX0_bestOn_0 18 rfl rfl)
theorem dX0_bestOn_21 : decode cX0_bestOn 21 = .ok (.getfield 194, 3) := dk_180 0 194 (dk_at dksX0_bestOn_0 21 rfl rfl)
theorem dX0_bestOn_24 : decode cX0_bestOn 24 = .ok (.bipush 8, 2) := dk_16 8 (dk_at dksX0_bestOn_1 0 rfl rfl)
theorem dX0_bestOn_26 : decode cX0_bestOn 26 = .ok (.iaload, 1) := dk_46 (dk_at dksX0_bestOn_1 2 rfl rfl)
theorem dX0_bestOn_27 : decode cX0_bestOn 27 = .ok (.isub, 1) := dk_100 (dk_at dksX0_bestOn_1 3 rfl rfl)
theorem dX0_bestOn_28 : decode cX0_bestOn 28 = .ok (.istore_n 3, 1) := dk_62 (dk_at dksX0_bestOn_1 4 rfl rfl)
theorem dX0_bestOn_29 : decode cX0_bestOn 29 = .ok (.iload_n 3, 1) := dk_29 (dk_at dksX0_bestOn_1 5 rfl rfl)
theorem dX0_bestOn_30 : decode cX0_bestOn 30 = .ok (.aload_n 0, 1) := dk_42 (dk_at dksX0_bestOn_1 6 rfl rfl)
theorem dX0_bestOn_31 : decode cX0_bestOn 31 = .ok (.getfield 313, 3) := dk_180 1 57 (dk_at dksX0_bestOn_1 7 rfl rfl)
theorem dX0_bestOn_34 : decode cX0_bestOn 34 = .ok (.if_icmp .le 22, 3) := dk_164 0 22 (dk_at dksX0_bestOn_1 10 rfl rfl)
theorem dX0_bestOn_37 : decode cX0_bestOn 37 = .ok (.aload_n 0, 1) := dk_42 (dk_at dksX0_bestOn_1 13 rfl rfl)
theorem dX0_bestOn_38 : decode cX0_bestOn 38 = .ok (.iload_n 3, 1) := dk_29 (dk_at dksX0_bestOn_1 14 rfl rfl)
theorem dX0_bestOn_39 : decode cX0_bestOn 39 = .ok (.putfield 313, 3) := dk_181 1 57 (dk_at dksX0_bestOn_1 15 rfl rfl)
theorem dX0_bestOn_42 : decode cX0_bestOn 42 = .ok (.aload_n 0, 1) := dk_42 (dk_at dksX0_bestOn_1 18 rfl rfl)
theorem dX0_bestOn_43 : decode cX0_bestOn 43 = .ok (.getfield 93, 3) := dk_180 0 93 (dk_at dksX0_bestOn_1 19 rfl rfl)
theorem dX0_bestOn_46 : decode cX0_bestOn 46 = .ok (.iconst 0, 1) := dk_3 (dk_at dksX0_bestOn_1 22 rfl rfl)
theorem dX0_bestOn_47 : decode cX0_bestOn 47 = .ok (.aload_n 0, 1) := dk_42 (dk_at dksX0_bestOn_1 23 rfl rfl)
theorem dX0_bestOn_48 : decode cX0_bestOn 48 = .ok (.getfield 96, 3) := dk_180 0 96 (dk_at dksX0_bestOn_2 0 rfl rfl)
theorem dX0_bestOn_51 : decode cX0_bestOn 51 = .ok (.iconst 0, 1) := dk_3 (dk_at dksX0_bestOn_2 3 rfl rfl)
theorem dX0_bestOn_52 : decode cX0_bestOn 52 = .ok (.iload_n 1, 1) := dk_27 (dk_at dksX0_bestOn_2 4 rfl rfl)
theorem dX0_bestOn_53 : decode cX0_bestOn 53 = .ok (.invokestatic 130, 3) := dk_184 0 130 (dk_at dksX0_bestOn_2 5 rfl rfl)
theorem dX0_bestOn_56 : decode cX0_bestOn 56 = .ok (.return_, 1) := dk_177 (dk_at dksX0_bestOn_2 8 rfl rfl)
theorem dX0_bestOn_57 : decode cX0_bestOn 57 = .ok (.iconst 0, 1) := dk_3 (dk_at dksX0_bestOn_2 9 rfl rfl)
theorem dX0_bestOn_58 : decode cX0_bestOn 58 = .ok (.istore_n 3, 1) := dk_62 (dk_at dksX0_bestOn_2 10 rfl rfl)
theorem dX0_bestOn_59 : decode cX0_bestOn 59 = .ok (.iload_n 3, 1) := dk_29 (dk_at dksX0_bestOn_2 11 rfl rfl)
theorem dX0_bestOn_60 : decode cX0_bestOn 60 = .ok (.aload_n 0, 1) := dk_42 (dk_at dksX0_bestOn_2 12 rfl rfl)
theorem dX0_bestOn_61 : decode cX0_bestOn 61 = .ok (.getfield 191, 3) := dk_180 0 191 (dk_at dksX0_bestOn_2 13 rfl rfl)
theorem dX0_bestOn_64 : decode cX0_bestOn 64 = .ok (.if_icmp .ge 41, 3) := dk_162 0 41 (dk_at dksX0_bestOn_2 16 rfl rfl)
theorem dX0_bestOn_67 : decode cX0_bestOn 67 = .ok (.aload_n 0, 1) := dk_42 (dk_at dksX0_bestOn_2 19 rfl rfl)
theorem dX0_bestOn_68 : decode cX0_bestOn 68 = .ok (.getfield 44, 3) := dk_180 0 44 (dk_at dksX0_bestOn_2 20 rfl rfl)
theorem dX0_bestOn_71 : decode cX0_bestOn 71 = .ok (.iload_n 3, 1) := dk_29 (dk_at dksX0_bestOn_2 23 rfl rfl)
theorem dX0_bestOn_72 : decode cX0_bestOn 72 = .ok (.aaload, 1) := dk_50 (dk_at dksX0_bestOn_3 0 rfl rfl)
theorem dX0_bestOn_73 : decode cX0_bestOn 73 = .ok (.aload_n 0, 1) := dk_42 (dk_at dksX0_bestOn_3 1 rfl rfl)
theorem dX0_bestOn_74 : decode cX0_bestOn 74 = .ok (.getfield 89, 3) := dk_180 0 89 (dk_at dksX0_bestOn_3 2 rfl rfl)
theorem dX0_bestOn_77 : decode cX0_bestOn 77 = .ok (.iload_n 1, 1) := dk_27 (dk_at dksX0_bestOn_3 5 rfl rfl)
theorem dX0_bestOn_78 : decode cX0_bestOn 78 = .ok (.aaload, 1) := dk_50 (dk_at dksX0_bestOn_3 6 rfl rfl)
theorem dX0_bestOn_79 : decode cX0_bestOn 79 = .ok (.invokevirtual 212, 3) := dk_182 0 212 (dk_at dksX0_bestOn_3 7 rfl rfl)
theorem dX0_bestOn_82 : decode cX0_bestOn 82 = .ok (.ifCond .eq 17, 3) := dk_153 0 17 (dk_at dksX0_bestOn_3 10 rfl rfl)
theorem dX0_bestOn_85 : decode cX0_bestOn 85 = .ok (.aload_n 0, 1) := dk_42 (dk_at dksX0_bestOn_3 13 rfl rfl)
theorem dX0_bestOn_86 : decode cX0_bestOn 86 = .ok (.iload_n 1, 1) := dk_27 (dk_at dksX0_bestOn_3 14 rfl rfl)
theorem dX0_bestOn_87 : decode cX0_bestOn 87 = .ok (.iload_n 3, 1) := dk_29 (dk_at dksX0_bestOn_3 15 rfl rfl)
theorem dX0_bestOn_88 : decode cX0_bestOn 88 = .ok (.invokevirtual 306, 3) := dk_182 1 50 (dk_at dksX0_bestOn_3 16 rfl rfl)
theorem dX0_bestOn_91 : decode cX0_bestOn 91 = .ok (.aload_n 0, 1) := dk_42 (dk_at dksX0_bestOn_3 19 rfl rfl)
theorem dX0_bestOn_92 : decode cX0_bestOn 92 = .ok (.iload_n 1, 1) := dk_27 (dk_at dksX0_bestOn_3 20 rfl rfl)
theorem dX0_bestOn_93 : decode cX0_bestOn 93 = .ok (.iconst 1, 1) := dk_4 (dk_at dksX0_bestOn_3 21 rfl rfl)
theorem dX0_bestOn_94 : decode cX0_bestOn 94 = .ok (.iadd, 1) := dk_96 (dk_at dksX0_bestOn_3 22 rfl rfl)
theorem dX0_bestOn_95 : decode cX0_bestOn 95 = .ok (.iload_n 2, 1) := dk_28 (dk_at dksX0_bestOn_3 23 rfl rfl)
theorem dX0_bestOn_96 : decode cX0_bestOn 96 = .ok (.invokevirtual 316, 3) := dk_182 1 60 (dk_at dksX0_bestOn_4 0 rfl rfl)
theorem dX0_bestOn_99 : decode cX0_bestOn 99 = .ok (.iinc 3 1, 3) := dk_132 3 1 (dk_at dksX0_bestOn_4 3 rfl rfl)
theorem dX0_bestOn_102 : decode cX0_bestOn 102 = .ok (.goto (-43), 3) := dk_167 255 213 (dk_at dksX0_bestOn_4 6 rfl rfl)
theorem dX0_bestOn_105 : decode cX0_bestOn 105 = .ok (.return_, 1) := dk_177 (dk_at dksX0_bestOn_4 9 rfl rfl)
abbrev cX0_rows : ByteArray := prog_1_method_64_code
def yX0_rows : MethodName := ⟨RX0, "rows", "(I)I"⟩
def dkwX0_rows_2 : List UInt8 := [182, 1, 72, 42, 42, 180, 1, 63, 42, 180, 1, 66, 182, 0, 123, 172]
abbrev dktX0_rows_2 : List UInt8 := dkwX0_rows_2 ++ []
def dkwX0_rows_1 : List UInt8 := [181, 1, 66, 42, 3, 181, 1, 63, 42, 180, 0, 89, 3, 50, 42, 180, 0, 51, 182, 1, 21, 42, 3, 27]
abbrev dktX0_rows_1 : List UInt8 := dkwX0_rows_1 ++ dktX0_rows_2
def dkwX0_rows_0 : List UInt8 := [27, 3, 7, 184, 0, 105, 154, 0, 5, 2, 172, 42, 180, 0, 191, 154, 0, 6, 16, 252, 172, 42, 3]
abbrev dktX0_rows_0 : List UInt8 := dkwX0_rows_0 ++ dktX0_rows_1
theorem dksX0_rows_0 : cX0_rows.data.toList.drop 0 = dktX0_rows_0 := by decide +kernel
theorem dksX0_rows_1 : cX0_rows.data.toList.drop 23 = dktX0_rows_1 := dk_seg dksX0_rows_0 23 rfl rfl
theorem dksX0_rows_2 : cX0_rows.data.toList.drop 47 = dktX0_rows_2 := dk_seg dksX0_rows_1 24 rfl rfl
theorem dX0_rows_0 : decode cX0_rows 0 = .ok (.iload_n 1, 1) := dk_27 (dk_at dksX0_rows_0 0 rfl rfl)
theorem dX0_rows_1 : decode cX0_rows 1 = .ok (.iconst 0, 1) := dk_3 (dk_at dksX0_rows_0 1 rfl rfl)
theorem dX0_rows_2 : decode cX0_rows 2 = .ok (.iconst 4, 1) := dk_7 (dk_at dksX0_rows_0 2 rfl rfl)
theorem dX0_rows_3 : decode cX0_rows 3 = .ok (.invokestatic 105, 3) := dk_184 0 105 (dk_at dksX0_rows_0 3 rfl rfl)
theorem dX0_rows_6 : decode cX0_rows 6 = .ok (.ifCond .ne 5, 3) := dk_154 0 5 (dk_at dksX0_rows_0 6 rfl rfl)
theorem dX0_rows_9 : decode cX0_rows 9 = .ok (.iconst (-1), 1) := dk_2 (dk_at dksX0_rows_0 9 rfl rfl)
theorem dX0_rows_10 : decode cX0_rows 10 = .ok (.ireturn, 1) := dk_172 (dk_at dksX0_rows_0 10 rfl rfl)
theorem dX0_rows_11 : decode cX0_rows 11 = .ok (.aload_n 0, 1) := dk_42 (dk_at dksX0_rows_0 11 rfl rfl)
theorem dX0_rows_12 : decode cX0_rows 12 = .ok (.getfield 191, 3) := dk_180 0 191 (dk_at dksX0_rows_0 12 rfl rfl)
theorem dX0_rows_15 : decode cX0_rows 15 = .ok (.ifCond .ne 6, 3) := dk_154 0 6 (dk_at dksX0_rows_0 15 rfl rfl)
theorem dX0_rows_18 : decode cX0_rows 18 = .ok (.bipush (-4), 2) := dk_16 252 (dk_at dksX0_rows_0 18 rfl rfl)
theorem dX0_rows_20 : decode cX0_rows 20 = .ok (.ireturn, 1) := dk_172 (dk_at dksX0_rows_0 20 rfl rfl)
theorem dX0_rows_21 : decode cX0_rows 21 = .ok (.aload_n 0, 1) := dk_42 (dk_at dksX0_rows_0 21 rfl rfl)
theorem dX0_rows_22 : decode cX0_rows 22 = .ok (.iconst 0, 1) := dk_3 (dk_at dksX0_rows_0 22 rfl rfl)
theorem dX0_rows_23 : decode cX0_rows 23 = .ok (.putfield 322, 3) := dk_181 1 66 (dk_at dksX0_rows_1 0 rfl rfl)
theorem dX0_rows_26 : decode cX0_rows 26 = .ok (.aload_n 0, 1) := dk_42 (dk_at dksX0_rows_1 3 rfl rfl)
theorem dX0_rows_27 : decode cX0_rows 27 = .ok (.iconst 0, 1) := dk_3 (dk_at dksX0_rows_1 4 rfl rfl)
theorem dX0_rows_28 : decode cX0_rows 28 = .ok (.putfield 319, 3) := dk_181 1 63 (dk_at dksX0_rows_1 5 rfl rfl)
theorem dX0_rows_31 : decode cX0_rows 31 = .ok (.aload_n 0, 1) := dk_42 (dk_at dksX0_rows_1 8 rfl rfl)
theorem dX0_rows_32 : decode cX0_rows 32 = .ok (.getfield 89, 3) := dk_180 0 89 (dk_at dksX0_rows_1 9 rfl rfl)
theorem dX0_rows_35 : decode cX0_rows 35 = .ok (.iconst 0, 1) := dk_3 (dk_at dksX0_rows_1 12 rfl rfl)
theorem dX0_rows_36 : decode cX0_rows 36 = .ok (.aaload, 1) := dk_50 (dk_at dksX0_rows_1 13 rfl rfl)
theorem dX0_rows_37 : decode cX0_rows 37 = .ok (.aload_n 0, 1) := dk_42 (dk_at dksX0_rows_1 14 rfl rfl)
theorem dX0_rows_38 : decode cX0_rows 38 = .ok (.getfield 51, 3) := dk_180 0 51 (dk_at dksX0_rows_1 15 rfl rfl)
theorem dX0_rows_41 : decode cX0_rows 41 = .ok (.invokevirtual 277, 3) := dk_182 1 21 (dk_at dksX0_rows_1 18 rfl rfl)
theorem dX0_rows_44 : decode cX0_rows 44 = .ok (.aload_n 0, 1) := dk_42 (dk_at dksX0_rows_1 21 rfl rfl)
theorem dX0_rows_45 : decode cX0_rows 45 = .ok (.iconst 0, 1) := dk_3 (dk_at dksX0_rows_1 22 rfl rfl)
theorem dX0_rows_46 : decode cX0_rows 46 = .ok (.iload_n 1, 1) := dk_27 (dk_at dksX0_rows_1 23 rfl rfl)
theorem dX0_rows_47 : decode cX0_rows 47 = .ok (.invokevirtual 328, 3) := dk_182 1 72 (dk_at dksX0_rows_2 0 rfl rfl)
theorem dX0_rows_50 : decode cX0_rows 50 = .ok (.aload_n 0, 1) := dk_42 (dk_at dksX0_rows_2 3 rfl rfl)
theorem dX0_rows_51 : decode cX0_rows 51 = .ok (.aload_n 0, 1) := dk_42 (dk_at dksX0_rows_2 4 rfl rfl)
theorem dX0_rows_52 : decode cX0_rows 52 = .ok (.getfield 319, 3) := dk_180 1 63 (dk_at dksX0_rows_2 5 rfl rfl)
theorem dX0_rows_55 : decode cX0_rows 55 = .ok (.aload_n 0, 1) := dk_42 (dk_at dksX0_rows_2 8 rfl rfl)
theorem dX0_rows_56 : decode cX0_rows 56 = .ok (.getfield 322, 3) := dk_180 1 66 (dk_at dksX0_rows_2 9 rfl rfl)
theorem dX0_rows_59 : decode cX0_rows 59 = .ok (.invokevirtual 123, 3) := dk_182 0 123 (dk_at dksX0_rows_2 12 rfl rfl)
theorem dX0_rows_62 : decode cX0_rows 62 = .ok (.ireturn, 1) := dk_172 (dk_at dksX0_rows_2 15 rfl rfl)
abbrev cX0_rowsOn : ByteArray := prog_1_method_63_code
def yX0_rowsOn : MethodName := ⟨RX0, "rowsOn", "(II)V"⟩
def dkwX0_rowsOn_4 : List UInt8 := [42, 27, 29, 182, 1, 50, 42, 27, 4, 96, 28, 182, 1, 72, 132, 3, 1, 167, 255, 213, 177]
abbrev dktX0_rowsOn_4 : List UInt8 := dkwX0_rowsOn_4 ++ []
def dkwX0_rowsOn_3 : List UInt8 := [180, 0, 191, 162, 0, 41, 42, 180, 0, 44, 29, 50, 42, 180, 0, 89, 27, 50, 182, 0, 212, 153, 0, 17]
abbrev dktX0_rowsOn_3 : List UInt8 := dkwX0_rowsOn_3 ++ dktX0_rowsOn_4
def dkwX0_rowsOn_2 : List UInt8 := [180, 1, 63, 104, 16, 6, 184, 0, 130, 42, 89, 180, 1, 63, 4, 96, 181, 1, 63, 177, 3, 62, 29, 42]
abbrev dktX0_rowsOn_2 : List UInt8 := dkwX0_rowsOn_2 ++ dktX0_rowsOn_3
def dkwX0_rowsOn_1 : List UInt8 := [182, 1, 69, 154, 0, 39, 42, 180, 0, 89, 27, 50, 180, 0, 194, 3, 42, 180, 0, 99, 16, 6, 42]
abbrev dktX0_rowsOn_1 : List UInt8 := dkwX0_rowsOn_1 ++ dktX0_rowsOn_2
def dkwX0_rowsOn_0 : List UInt8 := [27, 28, 160, 0, 63, 42, 89, 180, 1, 66, 4, 96, 181, 1, 66, 42, 42, 180, 0, 89, 27, 50]
abbrev dktX0_rowsOn_0 : List UInt8 := dkwX0_rowsOn_0 ++ dktX0_rowsOn_1
theorem dksX0_rowsOn_0 : cX0_rowsOn.data.toList.drop 0 = dktX0_rowsOn_0 := by decide +kernel
theorem dksX0_rowsOn_1 : cX0_rowsOn.data.toList.drop 22 = dktX0_rowsOn_1 := dk_seg dksX0_rowsOn_0 22 rfl rfl
theorem dksX0_rowsOn_2 : cX0_rowsOn.data.toList.drop 45 = dktX0_rowsOn_2 := dk_seg dksX0_rowsOn_1 23 rfl rfl
theorem dksX0_rowsOn_3 : cX0_rowsOn.data.toList.drop 69 = dktX0_rowsOn_3 := dk_seg dksX0_rowsOn_2 24 rfl rfl
theorem dksX0_rowsOn_4 : cX0_rowsOn.data.toList.drop 93 = dktX0_rowsOn_4 := dk_seg dksX0_rowsOn_3 24 rfl rfl
theorem dX0_rowsOn_0 : decode cX0_rowsOn 0 = .ok (.iload_n 1, 1) := dk_27 (dk_at dksX0_rowsOn_0 0 rfl rfl)
theorem dX0_rowsOn_1 : decode cX0_rowsOn 1 = .ok (.iload_n 2, 1) := dk_28 (dk_at dksX0_rowsOn_0 1 rfl rfl)
theorem dX0_rowsOn_2 : decode cX0_rowsOn 2 = .ok (.if_icmp .ne 63, 3) := dk_160 0 63 (dk_at dksX0_rowsOn_0 2 rfl rfl)
theorem dX0_rowsOn_5 : decode cX0_rowsOn 5 = .ok (.aload_n 0, 1) := dk_42 (dk_at dksX0_rowsOn_0 5 rfl rfl)
theorem dX0_rowsOn_6 : decode cX0_rowsOn 6 = .ok (.dup, 1) := dk_89 (dk_at dksX0_rowsOn_0 6 rfl rfl)
theorem dX0_rowsOn_7 : decode cX0_rowsOn 7 = .ok (.getfield 322, 3) := dk_180 1 66 (dk_at dksX0_rowsOn_0 7 rfl rfl)
theorem dX0_rowsOn_10 : decode cX0_rowsOn 10 = .ok (.iconst 1, 1) := dk_4 (dk_at dksX0_rowsOn_0 10 rfl rfl)
theorem dX0_rowsOn_11 : decode cX0_rowsOn 11 = .ok (.iadd, 1) := dk_96 (dk_at dksX0_rowsOn_0 11 rfl rfl)
theorem dX0_rowsOn_12 : decode cX0_rowsOn 12 = .ok (.putfield 322, 3) := dk_181 1 66 (dk_at dksX0_rowsOn_0 12 rfl rfl)
theorem dX0_rowsOn_15 : decode cX0_rowsOn 15 = .ok (.aload_n 0, 1) := dk_42 (dk_at dksX0_rowsOn_0 15 rfl rfl)
theorem dX0_rowsOn_16 : decode cX0_rowsOn 16 = .ok (.aload_n 0, 1) := dk_42 (dk_at dksX0_rowsOn_0 16 rfl rfl)
theorem dX0_rowsOn_17 : decode cX0_rowsOn 17 = .ok (.getfield 89, 3) := dk_180 0 89 (dk_at dksX0_rowsOn_0 17 rfl rfl)
theorem dX0_rowsOn_20 : decode cX0_rowsOn 20 = .ok (.iload_n 1, 1) := dk_27 (dk_at dksX0_rowsOn_0 20 rfl rfl)
theorem dX0_rowsOn_21 : decode cX0_rowsOn 21 = .ok (.aaload, 1) := dk_50 (dk_at dksX0_rowsOn_0 21 rfl rfl)
theorem dX0_rowsOn_22 : decode cX0_rowsOn 22 = .ok (.invokevirtual 325, 3) := dk_182 1 69 (dk_at dksX0_rowsOn_1 0 rfl rfl)
theorem dX0_rowsOn_25 : decode cX0_rowsOn 25 = .ok (.ifCond .ne 39, 3) := dk_154 0 39 (dk_at dksX0_rowsOn_1 3 rfl rfl)
theorem dX0_rowsOn_28 : decode cX0_rowsOn 28 = .ok (.aload_n 0, 1) := dk_42 (dk_at dksX0_rowsOn_1 6 rfl rfl)
theorem dX0_rowsOn_29 : decode cX0_rowsOn 29 = .ok (.getfield 89, 3) := dk_180 0 89 (dk_at dksX0_rowsOn_1 7 rfl rfl)
theorem dX0_rowsOn_32 : decode cX0_rowsOn 32 = .ok (.iload_n 1, 1) := dk_27 (dk_at dksX0_rowsOn_1 10 rfl rfl)
theorem dX0_rowsOn_33 : decode cX0_rowsOn 33 = .ok (.aaload, 1) := dk_50 (dk_at dksX0_rowsOn_1 11 rfl rfl)
theorem dX0_rowsOn_34 : decode cX0_rowsOn 34 = .ok (.getfield 194, 3) := dk_180 0 194 (dk_at dksX0_rowsOn_1 12 rfl rfl)
theorem dX0_rowsOn_37 : decode cX0_rowsOn 37 = .ok (.iconst 0, 1) := dk_3 (dk_at dksX0_rowsOn_1 15 rfl rfl)
theorem dX0_rowsOn_38 : decode cX0_rowsOn 38 = .ok (.aload_n 0, 1) := dk_42 (dk_at dksX0_rowsOn_1 16 rfl rfl)
theorem dX0_rowsOn_39 : decode cX0_rowsOn 39 = .ok (.getfield 99, 3) := dk_180 0 99 (dk_at dksX0_rowsOn_1 17 rfl rfl)
theorem dX0_rowsOn_42 : decode cX0_rowsOn 42 = .ok (.bipush 6, 2) := dk_16 6 (dk_at dksX0_rowsOn_1 20 rfl rfl)
theorem dX0_rowsOn_44 : decode cX0_rowsOn 44 = .ok (.aload_n 0, 1) := dk_42 (dk_at dksX0_rowsOn_1 22 rfl rfl)
theorem dX0_rowsOn_45 : decode cX0_rowsOn 45 = .ok (.getfield 319, 3) := dk_180 1 63 (dk_at dksX0_rowsOn_2 0 rfl rfl)
theorem dX0_rowsOn_48 : decode cX0_rowsOn 48 = .ok (.imul, 1) := dk_104 (dk_at dksX0_rowsOn_2 3 rfl rfl)
theorem dX0_rowsOn_49 : decode cX0_rowsOn 49 = .ok (.bipush 6, 2) := dk_16 6 (dk_at dksX0_rowsOn_2 4 rfl rfl)
theorem dX0_rowsOn_51 : decode cX0_rowsOn 51 = .ok (.invokestatic 130, 3) := dk_184 0 130 (dk_at dksX0_rowsOn_2 6 rfl rfl)
theorem dX0_rowsOn_54 : decode cX0_rowsOn 54 = .ok (.aload_n 0, 1) := dk_42 (dk_at dksX0_rowsOn_2 9 rfl rfl)
theorem dX0_rowsOn_55 : decode cX0_rowsOn 55 = .ok (.dup, 1) := dk_89 (dk_at dksX0_rowsOn_2 10 rfl rfl)
theorem dX0_rowsOn_56 : decode cX0_rowsOn 56 = .ok (.getfield 319, 3) := dk_180 1 63 (dk_at dksX0_rowsOn_2 11 rfl rfl)
theorem dX0_rowsOn_59 : decode cX0_rowsOn 59 = .ok (.iconst 1, 1) := dk_4 (dk_at dksX0_rowsOn_2 14 rfl rfl)
theorem dX0_rowsOn_60 : decode cX0_rowsOn 60 = .ok (.iadd, 1) := dk_96 (dk_at dksX0_rowsOn_2 15 rfl rfl)
theorem dX0_rowsOn_61 : decode cX0_rowsOn 61 = .ok (.putfield 319, 3) := dk_181 1 63 (dk_at dksX0_rowsOn_2 16 rfl rfl)
theorem dX0_rowsOn_64 : decode cX0_rowsOn 64 = .ok (.return_, 1) := dk_177 (dk_at dksX0_rowsOn_2 19 rfl rfl)
theorem dX0_rowsOn_65 : decode cX0_rowsOn 65 = .ok (.iconst 0, 1) := dk_3 (dk_at dksX0_rowsOn_2 20 rfl rfl)
theorem dX0_rowsOn_66 : decode cX0_rowsOn 66 = .ok (.istore_n 3, 1) := dk_62 (dk_at dksX0_rowsOn_2 21 rfl rfl)
theorem dX0_rowsOn_67 : decode cX0_rowsOn 67 = .ok (.iload_n 3, 1) := dk_29 (dk_at dksX0_rowsOn_2 22 rfl rfl)
theorem dX0_rowsOn_68 : decode cX0_rowsOn 68 = .ok (.aload_n 0, 1) := dk_42 (dk_at dksX0_rowsOn_2 23 rfl rfl)
theorem dX0_rowsOn_69 : decode cX0_rowsOn 69 = .ok (.getfield 191, 3) := dk_180 0 191 (dk_at dksX0_rowsOn_3 0 rfl rfl)
theorem dX0_rowsOn_72 : decode cX0_rowsOn 72 = .ok (.if_icmp .ge 41, 3) := dk_162 0 41 (dk_at dksX0_rowsOn_3 3 rfl rfl)
theorem dX0_rowsOn_75 : decode cX0_rowsOn 75 = .ok (.aload_n 0, 1) := dk_42 (dk_at dksX0_rowsOn_3 6 rfl rfl)
theorem dX0_rowsOn_76 : decode cX0_rowsOn 76 = .ok (.getfield 44, 3) := dk_180 0 44 (dk_at dksX0_rowsOn_3 7 rfl rfl)
theorem dX0_rowsOn_79 : decode cX0_rowsOn 79 = .ok (.iload_n 3, 1) := dk_29 (dk_at dksX0_rowsOn_3 10 rfl rfl)
theorem dX0_rowsOn_80 : decode cX0_rowsOn 80 = .ok (.aaload, 1) := dk_50 (dk_at dksX0_rowsOn_3 11 rfl rfl)
theorem dX0_rowsOn_81 : decode cX0_rowsOn 81 = .ok (.aload_n 0, 1) := dk_42 (dk_at dksX0_rowsOn_3 12 rfl rfl)
theorem dX0_rowsOn_82 : decode cX0_rowsOn 82 = .ok (.getfield 89, 3) := dk_180 0 89 (dk_at dksX0_rowsOn_3 13 rfl rfl)
theorem dX0_rowsOn_85 : decode cX0_rowsOn 85 = .ok (.iload_n 1, 1) := dk_27 (dk_at dksX0_rowsOn_3 16 rfl rfl)
theorem dX0_rowsOn_86 : decode cX0_rowsOn 86 = .ok (.aaload, 1) := dk_50 (dk_at dksX0_rowsOn_3 17 rfl rfl)
theorem dX0_rowsOn_87 : decode cX0_rowsOn 87 = .ok (.invokevirtual 212, 3) := dk_182 0 212 (dk_at dksX0_rowsOn_3 18 rfl rfl)
theorem dX0_rowsOn_90 : decode cX0_rowsOn 90 = .ok (.ifCond .eq 17, 3) := dk_153 0 17 (dk_at dksX0_rowsOn_3 21 rfl rfl)
theorem dX0_rowsOn_93 : decode cX0_rowsOn 93 = .ok (.aload_n 0, 1) := dk_42 (dk_at dksX0_rowsOn_4 0 rfl rfl)
theorem dX0_rowsOn_94 : decode cX0_rowsOn 94 = .ok (.iload_n 1, 1) := dk_27 (dk_at dksX0_rowsOn_4 1 rfl rfl)
theorem dX0_rowsOn_95 : decode cX0_rowsOn 95 = .ok (.iload_n 3, 1) := dk_29 (dk_at dksX0_rowsOn_4 2 rfl rfl)
theorem dX0_rowsOn_96 : decode cX0_rowsOn 96 = .ok (.invokevirtual 306, 3) := dk_182 1 50 (dk_at dksX0_rowsOn_4 3 rfl rfl)
theorem dX0_rowsOn_99 : decode cX0_rowsOn 99 = .ok (.aload_n 0, 1) := dk_42 (dk_at dksX0_rowsOn_4 6 rfl rfl)
theorem dX0_rowsOn_100 : decode cX0_rowsOn 100 = .ok (.iload_n 1, 1) := dk_27 (dk_at dksX0_rowsOn_4 7 rfl rfl)
theorem dX0_rowsOn_101 : decode cX0_rowsOn 101 = .ok (.iconst 1, 1) := dk_4 (dk_at dksX0_rowsOn_4 8 rfl rfl)
theorem dX0_rowsOn_102 : decode cX0_rowsOn 102 = .ok (.iadd, 1) := dk_96 (dk_at dksX0_rowsOn_4 9 rfl rfl)
theorem dX0_rowsOn_103 : decode cX0_rowsOn 103 = .ok (.iload_n 2, 1) := dk_28 (dk_at dksX0_rowsOn_4 10 rfl rfl)
theorem dX0_rowsOn_104 : decode cX0_rowsOn 104 = .ok (.invokevirtual 328, 3) := dk_182 1 72 (dk_at dksX0_rowsOn_4 11 rfl rfl)
theorem dX0_rowsOn_107 : decode cX0_rowsOn 107 = .ok (.iinc 3 1, 3) := dk_132 3 1 (dk_at dksX0_rowsOn_4 14 rfl rfl)
theorem dX0_rowsOn_110 : decode cX0_rowsOn 110 = .ok (.goto (-43), 3) := dk_167 255 213 (dk_at dksX0_rowsOn_4 17 rfl rfl)
theorem dX0_rowsOn_113 : decode cX0_rowsOn 113 = .ok (.return_, 1) := dk_177 (dk_at dksX0_rowsOn_4 20 rfl rfl)
abbrev cX0_isLeft : ByteArray := prog_1_method_62_code
def yX0_isLeft : MethodName := ⟨RX0, "isLeft", "(LSandPiano$Sands;)Z"⟩
def dkwX0_isLeft_3 : List UInt8 := [167, 255, 187, 3, 172]
abbrev dktX0_isLeft_3 : List UInt8 := dkwX0_isLeft_3 ++ []
def dkwX0_isLeft_2 : List UInt8 := [160, 0, 7, 4, 167, 0, 4, 3, 62, 132, 4, 1, 167, 255, 212, 29, 153, 0, 5, 4, 172, 132, 2, 1]
abbrev dktX0_isLeft_2 : List UInt8 := dkwX0_isLeft_2 ++ dktX0_isLeft_3
def dkwX0_isLeft_1 : List UInt8 := [29, 153, 0, 37, 42, 180, 0, 99, 16, 6, 28, 104, 21, 4, 96, 46, 43, 180, 0, 194, 21, 4, 46]
abbrev dktX0_isLeft_1 : List UInt8 := dkwX0_isLeft_1 ++ dktX0_isLeft_2
def dkwX0_isLeft_0 : List UInt8 := [3, 61, 28, 42, 180, 1, 63, 162, 0, 67, 4, 62, 3, 54, 4, 21, 4, 42, 180, 0, 191, 162, 0, 41]
abbrev dktX0_isLeft_0 : List UInt8 := dkwX0_isLeft_0 ++ dktX0_isLeft_1
theorem dksX0_isLeft_0 : cX0_isLeft.data.toList.drop 0 = dktX0_isLeft_0 := by decide +kernel
theorem dksX0_isLeft_1 : cX0_isLeft.data.toList.drop 24 = dktX0_isLeft_1 := dk_seg dksX0_isLeft_0 24 rfl rfl
theorem dksX0_isLeft_2 : cX0_isLeft.data.toList.drop 47 = dktX0_isLeft_2 := dk_seg dksX0_isLeft_1 23 rfl rfl
theorem dksX0_isLeft_3 : cX0_isLeft.data.toList.drop 71 = dktX0_isLeft_3 := dk_seg dksX0_isLeft_2 24 rfl rfl
theorem dX0_isLeft_0 : decode cX0_isLeft 0 = .ok (.iconst 0, 1) := dk_3 (dk_at dksX0_isLeft_0 0 rfl rfl)
theorem dX0_isLeft_1 : decode cX0_isLeft 1 = .ok (.istore_n 2, 1) := dk_61 (dk_at dksX0_isLeft_0 1 rfl rfl)
theorem dX0_isLeft_2 : decode cX0_isLeft 2 = .ok (.iload_n 2, 1) := dk_28 (dk_at dksX0_isLeft_0 2 rfl rfl)
theorem dX0_isLeft_3 : decode cX0_isLeft 3 = .ok (.aload_n 0, 1) := dk_42 (dk_at dksX0_isLeft_0 3 rfl rfl)
theorem dX0_isLeft_4 : decode cX0_isLeft 4 = .ok (.getfield 319, 3) := dk_180 1 63 (dk_at dksX0_isLeft_0 4 rfl rfl)
theorem dX0_isLeft_7 : decode cX0_isLeft 7 = .ok (.if_icmp .ge 67, 3) := dk_162 0 67 (dk_at dksX0_isLeft_0 7 rfl rfl)
theorem dX0_isLeft_10 : decode cX0_isLeft 10 = .ok (.iconst 1, 1) := dk_4 (dk_at dksX0_isLeft_0 10 rfl rfl)
theorem dX0_isLeft_11 : decode cX0_isLeft 11 = .ok (.istore_n 3, 1) := dk_62 (dk_at dksX0_isLeft_0 11 rfl rfl)
theorem dX0_isLeft_12 : decode cX0_isLeft 12 = .ok (.iconst 0, 1) := dk_3 (dk_at dksX0_isLeft_0 12 rfl rfl)
theorem dX0_isLeft_13 : decode cX0_isLeft 13 = .ok (.istore 4, 2) := dk_54 4 (dk_at dksX0_isLeft_0 13 rfl rfl)
theorem dX0_isLeft_15 : decode cX0_isLeft 15 = .ok (.iload 4, 2) := dk_21 4 (dk_at dksX0_isLeft_0 15 rfl rfl)
theorem dX0_isLeft_17 : decode cX0_isLeft 17 = .ok (.aload_n 0, 1) := dk_42 (dk_at dksX0_isLeft_0 17 rfl rfl)
theorem dX0_isLeft_18 : decode cX0_isLeft 18 = .ok (.getfield 191, 3) := dk_180 0 191 (dk_at dksX0_isLeft_0 18 rfl rfl)
theorem dX0_isLeft_21 : decode cX0_isLeft 21 = .ok (.if_icmp .ge 41, 3) := dk_162 0 41 (dk_at dksX0_isLeft_0 21 rfl rfl)
theorem dX0_isLeft_24 : decode cX0_isLeft 24 = .ok (.iload_n 3, 1) := dk_29 (dk_at dksX0_isLeft_1 0 rfl rfl)
theorem dX0_isLeft_25 : decode cX0_isLeft 25 = .ok (.ifCond .eq 37, 3) := dk_153 0 37 (dk_at dksX0_isLeft_1 1 rfl rfl)
theorem dX0_isLeft_28 : decode cX0_isLeft 28 = .ok (.aload_n 0, 1) := dk_42 (dk_at dksX0_isLeft_1 4 rfl rfl)
theorem dX0_isLeft_29 : decode cX0_isLeft 29 = .ok (.getfield 99, 3) := dk_180 0 99 (dk_at dksX0_isLeft_1 5 rfl rfl)
theorem dX0_isLeft_32 : decode cX0_isLeft 32 = .ok (.bipush 6, 2) := dk_16 6 (dk_at dksX0_isLeft_1 8 rfl rfl)
theorem dX0_isLeft_34 : decode cX0_isLeft 34 = .ok (.iload_n 2, 1) := dk_28 (dk_at dksX0_isLeft_1 10 rfl rfl)
theorem dX0_isLeft_35 : decode cX0_isLeft 35 = .ok (.imul, 1) := dk_104 (dk_at dksX0_isLeft_1 11 rfl rfl)
theorem dX0_isLeft_36 : decode cX0_isLeft 36 = .ok (.iload 4, 2) := dk_21 4 (dk_at dksX0_isLeft_1 12 rfl rfl)
theorem dX0_isLeft_38 : decode cX0_isLeft 38 = .ok (.iadd, 1) := dk_96 (dk_at dksX0_isLeft_1 14 rfl rfl)
theorem dX0_isLeft_39 : decode cX0_isLeft 39 = .ok (.iaload, 1) := dk_46 (dk_at dksX0_isLeft_1 15 rfl rfl)
theorem dX0_isLeft_40 : decode cX0_isLeft 40 = .ok (.aload_n 1, 1) := dk_43 (dk_at dksX0_isLeft_1 16 rfl rfl)
theorem dX0_isLeft_41 : decode cX0_isLeft 41 = .ok (.getfield 194, 3) := dk_180 0 194 (dk_at dksX0_isLeft_1 17 rfl rfl)
theorem dX0_isLeft_44 : decode cX0_isLeft 44 = .ok (.iload 4, 2) := dk_21 4 (dk_at dksX0_isLeft_1 20 rfl rfl)
theorem dX0_isLeft_46 : decode cX0_isLeft 46 = .ok (.iaload, 1) := dk_46 (dk_at dksX0_isLeft_1 22 rfl rfl)
theorem dX0_isLeft_47 : decode cX0_isLeft 47 = .ok (.if_icmp .ne 7, 3) := dk_160 0 7 (dk_at dksX0_isLeft_2 0 rfl rfl)
theorem dX0_isLeft_50 : decode cX0_isLeft 50 = .ok (.iconst 1, 1) := dk_4 (dk_at dksX0_isLeft_2 3 rfl rfl)
theorem dX0_isLeft_51 : decode cX0_isLeft 51 = .ok (.goto 4, 3) := dk_167 0 4 (dk_at dksX0_isLeft_2 4 rfl rfl)
theorem dX0_isLeft_54 : decode cX0_isLeft 54 = .ok (.iconst 0, 1) := dk_3 (dk_at dksX0_isLeft_2 7 rfl rfl)
theorem dX0_isLeft_55 : decode cX0_isLeft 55 = .ok (.istore_n 3, 1) := dk_62 (dk_at dksX0_isLeft_2 8 rfl rfl)
theorem dX0_isLeft_56 : decode cX0_isLeft 56 = .ok (.iinc 4 1, 3) := dk_132 4 1 (dk_at dksX0_isLeft_2 9 rfl rfl)
theorem dX0_isLeft_59 : decode cX0_isLeft 59 = .ok (.goto (-44), 3) := dk_167 255 212 (dk_at dksX0_isLeft_2 12 rfl rfl)
theorem dX0_isLeft_62 : decode cX0_isLeft 62 = .ok (.iload_n 3, 1) := dk_29 (dk_at dksX0_isLeft_2 15 rfl rfl)
theorem dX0_isLeft_63 : decode cX0_isLeft 63 = .ok (.ifCond .eq 5, 3) := dk_153 0 5 (dk_at dksX0_isLeft_2 16 rfl rfl)
theorem dX0_isLeft_66 : decode cX0_isLeft 66 = .ok (.iconst 1, 1) := dk_4 (dk_at dksX0_isLeft_2 19 rfl rfl)
theorem dX0_isLeft_67 : decode cX0_isLeft 67 = .ok (.ireturn, 1) := dk_172 (dk_at dksX0_isLeft_2 20 rfl rfl)
theorem dX0_isLeft_68 : decode cX0_isLeft 68 = .ok (.iinc 2 1, 3) := dk_132 2 1 (dk_at dksX0_isLeft_2 21 rfl rfl)
theorem dX0_isLeft_71 : decode cX0_isLeft 71 = .ok (.goto (-69), 3) := dk_167 255 187 (dk_at dksX0_isLeft_3 0 rfl rfl)
theorem dX0_isLeft_74 : decode cX0_isLeft 74 = .ok (.iconst 0, 1) := dk_3 (dk_at dksX0_isLeft_3 3 rfl rfl)
theorem dX0_isLeft_75 : decode cX0_isLeft 75 = .ok (.ireturn, 1) := dk_172 (dk_at dksX0_isLeft_3 4 rfl rfl)
abbrev cX0_back : ByteArray := prog_1_method_67_code
def yX0_back : MethodName := ⟨RX0, "back", "(III)I"⟩
def dkwX0_back_8 : List UInt8 := [180, 1, 78, 158, 0, 14, 42, 29, 42, 180, 0, 96, 28, 182, 1, 39, 87, 42, 180, 1, 78, 172]
abbrev dktX0_back_8 : List UInt8 := dkwX0_back_8 ++ []
def dkwX0_back_7 : List UInt8 := [167, 0, 4, 3, 79, 132, 4, 1, 167, 255, 212, 42, 3, 181, 1, 78, 42, 3, 28, 182, 1, 81, 42]
abbrev dktX0_back_7 : List UInt8 := dkwX0_back_7 ++ dktX0_back_8
def dkwX0_back_6 : List UInt8 := [180, 0, 194, 21, 4, 21, 4, 42, 180, 0, 191, 162, 0, 15, 42, 180, 0, 32, 27, 50, 21, 4, 46]
abbrev dktX0_back_6 : List UInt8 := dkwX0_back_6 ++ dktX0_back_7
def dkwX0_back_5 : List UInt8 := [172, 132, 6, 1, 167, 255, 221, 3, 54, 4, 21, 4, 16, 9, 162, 0, 43, 42, 180, 0, 89, 3, 50]
abbrev dktX0_back_5 : List UInt8 := dkwX0_back_5 ++ dktX0_back_6
def dkwX0_back_4 : List UInt8 := [25, 4, 21, 6, 46, 54, 7, 21, 7, 3, 17, 3, 231, 184, 0, 105, 154, 0, 9, 42, 6, 182, 0, 115]
abbrev dktX0_back_4 : List UInt8 := dkwX0_back_4 ++ dktX0_back_5
def dkwX0_back_3 : List UInt8 := [42, 180, 0, 32, 27, 50, 58, 4, 25, 4, 190, 54, 5, 3, 54, 6, 21, 6, 21, 5, 162, 0, 34]
abbrev dktX0_back_3 : List UInt8 := dkwX0_back_3 ++ dktX0_back_4
def dkwX0_back_2 : List UInt8 := [182, 0, 115, 172, 42, 180, 0, 32, 27, 50, 190, 42, 180, 0, 191, 159, 0, 9, 42, 8, 182, 0, 115, 172]
abbrev dktX0_back_2 : List UInt8 := dkwX0_back_2 ++ dktX0_back_3
def dkwX0_back_1 : List UInt8 := [172, 42, 180, 0, 191, 154, 0, 6, 16, 252, 172, 42, 180, 0, 32, 27, 50, 199, 0, 9, 42, 4]
abbrev dktX0_back_1 : List UInt8 := dkwX0_back_1 ++ dktX0_back_2
def dkwX0_back_0 : List UInt8 := [27, 184, 0, 109, 153, 0, 19, 28, 3, 7, 184, 0, 105, 153, 0, 10, 29, 184, 0, 109, 154, 0, 5, 2]
abbrev dktX0_back_0 : List UInt8 := dkwX0_back_0 ++ dktX0_back_1
theorem dksX0_back_0 : cX0_back.data.toList.drop 0 = dktX0_back_0 := by decide +kernel
theorem dksX0_back_1 : cX0_back.data.toList.drop 24 = dktX0_back_1 := dk_seg dksX0_back_0 24 rfl rfl
theorem dksX0_back_2 : cX0_back.data.toList.drop 46 = dktX0_back_2 := dk_seg dksX0_back_1 22 rfl rfl
theorem dksX0_back_3 : cX0_back.data.toList.drop 70 = dktX0_back_3 := dk_seg dksX0_back_2 24 rfl rfl
theorem dksX0_back_4 : cX0_back.data.toList.drop 93 = dktX0_back_4 := dk_seg dksX0_back_3 23 rfl rfl
theorem dksX0_back_5 : cX0_back.data.toList.drop 117 = dktX0_back_5 := dk_seg dksX0_back_4 24 rfl rfl
theorem dksX0_back_6 : cX0_back.data.toList.drop 140 = dktX0_back_6 := dk_seg dksX0_back_5 23 rfl rfl
theorem dksX0_back_7 : cX0_back.data.toList.drop 163 = dktX0_back_7 := dk_seg dksX0_back_6 23 rfl rfl
theorem dksX0_back_8 : cX0_back.data.toList.drop 186 = dktX0_back_8 := dk_seg dksX0_back_7 23 rfl rfl
theorem dX0_back_0 : decode cX0_back 0 = .ok (.iload_n 1, 1) := dk_27 (dk_at dksX0_back_0 0 rfl rfl)
theorem dX0_back_1 : decode cX0_back 1 = .ok (.invokestatic 109, 3) := dk_184 0 109 (dk_at dksX0_back_0 1 rfl rfl)
theorem dX0_back_4 : decode cX0_back 4 = .ok (.ifCond .eq 19, 3) := dk_153 0 19 (dk_at dksX0_back_0 4 rfl rfl)
theorem dX0_back_7 : decode cX0_back 7 = .ok (.iload_n 2, 1) := dk_28 (dk_at dksX0_back_0 7 rfl rfl)
theorem dX0_back_8 : decode cX0_back 8 = .ok (.iconst 0, 1) := dk_3 (dk_at dksX0_back_0 8 rfl rfl)
theorem dX0_back_9 : decode cX0_back 9 = .ok (.iconst 4, 1) := dk_7 (dk_at dksX0_back_0 9 rfl rfl)
theorem dX0_back_10 : decode cX0_back 10 = .ok (.invokestatic 105, 3) := dk_184 0 105 (dk_at dksX0_back_0 10 rfl rfl)
theorem dX0_back_13 : decode cX0_back 13 = .ok (.ifCond .eq 10, 3) := dk_153 0 10 (dk_at dksX0_back_0 13 rfl rfl)
theorem dX0_back_16 : decode cX0_back 16 = .ok (.iload_n 3, 1) := dk_29 (dk_at dksX0_back_0 16 rfl rfl)
theorem dX0_back_17 : decode cX0_back 17 = .ok (.invokestatic 109, 3) := dk_184 0 109 (dk_at dksX0_back_0 17 rfl rfl)
theorem dX0_back_20 : decode cX0_back 20 = .ok (.ifCond .ne 5, 3) := dk_154 0 5 (dk_at dksX0_back_0 20 rfl rfl)
theorem dX0_back_23 : decode cX0_back 23 = .ok (.iconst (-1), 1) := dk_2 (dk_at dksX0_back_0 23 rfl rfl)
theorem dX0_back_24 : decode cX0_back 24 = .ok (.ireturn, 1) := dk_172 (dk_at dksX0_back_1 0 rfl rfl)
theorem dX0_back_25 : decode cX0_back 25 = .ok (.aload_n 0, 1) := dk_42 (dk_at dksX0_back_1 1 rfl rfl)
theorem dX0_back_26 : decode cX0_back 26 = .ok (.getfield 191, 3) := dk_180 0 191 (dk_at dksX0_back_1 2 rfl rfl)
theorem dX0_back_29 : decode cX0_back 29 = .ok (.ifCond .ne 6, 3) := dk_154 0 6 (dk_at dksX0_back_1 5 rfl rfl)
theorem dX0_back_32 : decode cX0_back 32 = .ok (.bipush (-4), 2) := dk_16 252 (dk_at dksX0_back_1 8 rfl rfl)
theorem dX0_back_34 : decode cX0_back 34 = .ok (.ireturn, 1) := dk_172 (dk_at dksX0_back_1 10 rfl rfl)
theorem dX0_back_35 : decode cX0_back 35 = .ok (.aload_n 0, 1) := dk_42 (dk_at dksX0_back_1 11 rfl rfl)
theorem dX0_back_36 : decode cX0_back 36 = .ok (.getfield 32, 3) := dk_180 0 32 (dk_at dksX0_back_1 12 rfl rfl)
theorem dX0_back_39 : decode cX0_back 39 = .ok (.iload_n 1, 1) := dk_27 (dk_at dksX0_back_1 15 rfl rfl)
theorem dX0_back_40 : decode cX0_back 40 = .ok (.aaload, 1) := dk_50 (dk_at dksX0_back_1 16 rfl rfl)
theorem dX0_back_41 : decode cX0_back 41 = .ok (.ifnonnull 9, 3) := dk_199 0 9 (dk_at dksX0_back_1 17 rfl rfl)
theorem dX0_back_44 : decode cX0_back 44 = .ok (.aload_n 0, 1) := dk_42 (dk_at dksX0_back_1 20 rfl rfl)
theorem dX0_back_45 : decode cX0_back 45 = .ok (.iconst 1, 1) := dk_4 (dk_at dksX0_back_1 21 rfl rfl)
theorem dX0_back_46 : decode cX0_back 46 = .ok (.invokevirtual 115, 3) := dk_182 0 115 (dk_at dksX0_back_2 0 rfl rfl)
theorem dX0_back_49 : decode cX0_back 49 = .ok (.ireturn, 1) := dk_172 (dk_at dksX0_back_2 3 rfl rfl)
theorem dX0_back_50 : decode cX0_back 50 = .ok (.aload_n 0, 1) := dk_42 (dk_at dksX0_back_2 4 rfl rfl)
theorem dX0_back_51 : decode cX0_back 51 = .ok (.getfield 32, 3) := dk_180 0 32 (dk_at dksX0_back_2 5 rfl rfl)
theorem dX0_back_54 : decode cX0_back 54 = .ok (.iload_n 1, 1) := dk_27 (dk_at dksX0_back_2 8 rfl rfl)
theorem dX0_back_55 : decode cX0_back 55 = .ok (.aaload, 1) := dk_50 (dk_at dksX0_back_2 9 rfl rfl)
theorem dX0_back_56 : decode cX0_back 56 = .ok (.arraylength, 1) := dk_190 (dk_at dksX0_back_2 10 rfl rfl)
theorem dX0_back_57 : decode cX0_back 57 = .ok (.aload_n 0, 1) := dk_42 (dk_at dksX0_back_2 11 rfl rfl)
theorem dX0_back_58 : decode cX0_back 58 = .ok (.getfield 191, 3) := dk_180 0 191 (dk_at dksX0_back_2 12 rfl rfl)
theorem dX0_back_61 : decode cX0_back 61 = .ok (.if_icmp .eq 9, 3) := dk_159 0 9 (dk_at dksX0_back_2 15 rfl rfl)
theorem dX0_back_64 : decode cX0_back 64 = .ok (.aload_n 0, 1) := dk_42 (dk_at dksX0_back_2 18 rfl rfl)
theorem dX0_back_65 : decode cX0_back 65 = .ok (.iconst 5, 1) := dk_8 (dk_at dksX0_back_2 19 rfl rfl)
theorem dX0_back_66 : decode cX0_back 66 = .ok (.invokevirtual 115, 3) := dk_182 0 115 (dk_at dksX0_back_2 20 rfl rfl)
theorem dX0_back_69 : decode cX0_back 69 = .ok (.ireturn, 1) := dk_172 (dk_at dksX0_back_2 23 rfl rfl)
theorem dX0_back_70 : decode cX0_back 70 = .ok (.aload_n 0, 1) := dk_42 (dk_at dksX0_back_3 0 rfl rfl)
theorem dX0_back_71 : decode cX0_back 71 = .ok (.getfield 32, 3) := dk_180 0 32 (dk_at dksX0_back_3 1 rfl rfl)
theorem dX0_back_74 : decode cX0_back 74 = .ok (.iload_n 1, 1) := dk_27 (dk_at dksX0_back_3 4 rfl rfl)
theorem dX0_back_75 : decode cX0_back 75 = .ok (.aaload, 1) := dk_50 (dk_at dksX0_back_3 5 rfl rfl)
theorem dX0_back_76 : decode cX0_back 76 = .ok (.astore 4, 2) := dk_58 4 (dk_at dksX0_back_3 6 rfl rfl)
theorem dX0_back_78 : decode cX0_back 78 = .ok (.aload 4, 2) := dk_25 4 (dk_at dksX0_back_3 8 rfl rfl)
theorem dX0_back_80 : decode cX0_back 80 = .ok (.arraylength, 1) := dk_190 (dk_at dksX0_back_3 10 rfl rfl)
theorem dX0_back_81 : decode cX0_back 81 = .ok (.istore 5, 2) := dk_54 5 (dk_at dksX0_back_3 11 rfl rfl)
theorem dX0_back_83 : decode cX0_back 83 = .ok (.iconst 0, 1) := dk_3 (dk_at dksX0_back_3 13 rfl rfl)
theorem dX0_back_84 : decode cX0_back 84 = .ok (.istore 6, 2) := dk_54 6 (dk_at dksX0_back_3 14 rfl rfl)
theorem dX0_back_86 : decode cX0_back 86 = .ok (.iload 6, 2) := dk_21 6 (dk_at dksX0_back_3 16 rfl rfl)
theorem dX0_back_88 : decode cX0_back 88 = .ok (.iload 5, 2) := dk_21 5 (dk_at dksX0_back_3 18 rfl rfl)
theorem dX0_back_90 : decode cX0_back 90 = .ok (.if_icmp .ge 34, 3) := dk_162 0 34 (dk_at dksX0_back_3 20 rfl rfl)
theorem dX0_back_93 : decode cX0_back 93 = .ok (.aload 4, 2) := dk_25 4 (dk_at dksX0_back_4 0 rfl rfl)
theorem dX0_back_95 : decode cX0_back 95 = .ok (.iload 6, 2) := dk_21 6 (dk_at dksX0_back_4 2 rfl rfl)
theorem dX0_back_97 : decode cX0_back 97 = .ok (.iaload, 1) := dk_46 (dk_at dksX0_back_4 4 rfl rfl)
theorem dX0_back_98 : decode cX0_back 98 = .ok (.istore 7, 2) := dk_54 7 (dk_at dksX0_back_4 5 rfl rfl)
theorem dX0_back_100 : decode cX0_back 100 = .ok (.iload 7, 2) := dk_21 7 (dk_at dksX0_back_4 7 rfl rfl)
theorem dX0_back_102 : decode cX0_back 102 = .ok (.iconst 0, 1) := dk_3 (dk_at dksX0_back_4 9 rfl rfl)
theorem dX0_back_103 : decode cX0_back 103 = .ok (.sipush 999, 3) := dk_17 3 231 (dk_at dksX0_back_4 10 rfl rfl)
theorem dX0_back_106 : decode cX0_back 106 = .ok (.invokestatic 105, 3) := dk_184 0 105 (dk_at dksX0_back_4 13 rfl rfl)
theorem dX0_back_109 : decode cX0_back 109 = .ok (.ifCond .ne 9, 3) := dk_154 0 9 (dk_at dksX0_back_4 16 rfl rfl)
theorem dX0_back_112 : decode cX0_back 112 = .ok (.aload_n 0, 1) := dk_42 (dk_at dksX0_back_4 19 rfl rfl)
theorem dX0_back_113 : decode cX0_back 113 = .ok (.iconst 3, 1) := dk_6 (dk_at dksX0_back_4 20 rfl rfl)
theorem dX0_back_114 : decode cX0_back 114 = .ok (.invokevirtual 115, 3) := dk_182 0 115 (dk_at dksX0_back_4 21 rfl rfl)
theorem dX0_back_117 : decode cX0_back 117 = .ok (.ireturn, 1) := dk_172 (dk_at dksX0_back_5 0 rfl rfl)
theorem dX0_back_118 : decode cX0_back 118 = .ok (.iinc 6 1, 3) := dk_132 6 1 (dk_at dksX0_back_5 1 rfl rfl)
theorem dX0_back_121 : decode cX0_back 121 = .ok (.goto (-35), 3) := dk_167 255 221 (dk_at dksX0_back_5 4 rfl rfl)
theorem dX0_back_124 : decode cX0_back 124 = .ok (.iconst 0, 1) := dk_3 (dk_at dksX0_back_5 7 rfl rfl)
theorem dX0_back_125 : decode cX0_back 125 = .ok (.istore 4, 2) := dk_54 4 (dk_at dksX0_back_5 8 rfl rfl)
theorem dX0_back_127 : decode cX0_back 127 = .ok (.iload 4, 2) := dk_21 4 (dk_at dksX0_back_5 10 rfl rfl)
theorem dX0_back_129 : decode cX0_back 129 = .ok (.bipush 9, 2) := dk_16 9 (dk_at dksX0_back_5 12 rfl rfl)
theorem dX0_back_131 : decode cX0_back 131 = .ok (.if_icmp .ge 43, 3) := dk_162 0 43 (dk_at dksX0_back_5 14 rfl rfl)
theorem dX0_back_134 : decode cX0_back 134 = .ok (.aload_n 0, 1) := dk_42 (dk_at dksX0_back_5 17 rfl rfl)
theorem dX0_back_135 : decode cX0_back 135 = .ok (.getfield 89, 3) := dk_180 0 89 (dk_at dksX0_back_5 18 rfl rfl)
theorem dX0_back_138 : decode cX0_back 138 = .ok (.iconst 0, 1) := dk_3 (dk_at dksX0_back_5 21 rfl rfl)
theorem dX0_back_139 : decode cX0_back 139 = .ok (.aaload, 1) := dk_50 (dk_at dksX0_back_5 22 rfl rfl)
theorem dX0_back_140 : decode cX0_back 140 = .ok (.getfield 194, 3) := dk_180 0 194 (dk_at dksX0_back_6 0 rfl rfl)
theorem dX0_back_143 : decode cX0_back 143 = .ok (.iload 4, 2) := dk_21 4 (dk_at dksX0_back_6 3 rfl rfl)
theorem dX0_back_145 : decode cX0_back 145 = .ok (.iload 4, 2) := dk_21 4 (dk_at dksX0_back_6 5 rfl rfl)
theorem dX0_back_147 : decode cX0_back 147 = .ok (.aload_n 0, 1) := dk_42 (dk_at dksX0_back_6 7 rfl rfl)
theorem dX0_back_148 : decode cX0_back 148 = .ok (.getfield 191, 3) := dk_180 0 191 (dk_at dksX0_back_6 8 rfl rfl)
theorem dX0_back_151 : decode cX0_back 151 = .ok (.if_icmp .ge 15, 3) := dk_162 0 15 (dk_at dksX0_back_6 11 rfl rfl)
theorem dX0_back_154 : decode cX0_back 154 = .ok (.aload_n 0, 1) := dk_42 (dk_at dksX0_back_6 14 rfl rfl)
theorem dX0_back_155 : decode cX0_back 155 = .ok (.getfield 32, 3) := dk_180 0 32 (dk_at dksX0_back_6 15 rfl rfl)
theorem dX0_back_158 : decode cX0_back 158 = .ok (.iload_n 1, 1) := dk_27 (dk_at dksX0_back_6 18 rfl rfl)
theorem dX0_back_159 : decode cX0_back 159 = .ok (.aaload, 1) := dk_50 (dk_at dksX0_back_6 19 rfl rfl)
theorem dX0_back_160 : decode cX0_back 160 = .ok (.iload 4, 2) := dk_21 4 (dk_at dksX0_back_6 20 rfl rfl)
theorem dX0_back_162 : decode cX0_back 162 = .ok (.iaload, 1) := dk_46 (dk_at dksX0_back_6 22 rfl rfl)
theorem dX0_back_163 : decode cX0_back 163 = .ok (.goto 4, 3) := dk_167 0 4 (dk_at dksX0_back_7 0 rfl rfl)
theorem dX0_back_166 : decode cX0_back 166 = .ok (.iconst 0, 1) := dk_3 (dk_at dksX0_back_7 3 rfl rfl)
theorem dX0_back_167 : decode cX0_back 167 = .ok (.iastore, 1) := dk_79 (dk_at dksX0_back_7 4 rfl rfl)
theorem dX0_back_168 : decode cX0_back 168 = .ok (.iinc 4 1, 3) := dk_132 4 1 (dk_at dksX0_back_7 5 rfl rfl)
theorem dX0_back_171 : decode cX0_back 171 = .ok (.goto (-44), 3) := dk_167 255 212 (dk_at dksX0_back_7 8 rfl rfl)
theorem dX0_back_174 : decode cX0_back 174 = .ok (.aload_n 0, 1) := dk_42 (dk_at dksX0_back_7 11 rfl rfl)
theorem dX0_back_175 : decode cX0_back 175 = .ok (.iconst 0, 1) := dk_3 (dk_at dksX0_back_7 12 rfl rfl)
theorem dX0_back_176 : decode cX0_back 176 = .ok (.putfield 334, 3) := dk_181 1 78 (dk_at dksX0_back_7 13 rfl rfl)
theorem dX0_back_179 : decode cX0_back 179 = .ok (.aload_n 0, 1) := dk_42 (dk_at dksX0_back_7 16 rfl rfl)
theorem dX0_back_180 : decode cX0_back 180 = .ok (.iconst 0, 1) := dk_3 (dk_at dksX0_back_7 17 rfl rfl)
theorem dX0_back_181 : decode cX0_back 181 = .ok (.iload_n 2, 1) := dk_28 (dk_at dksX0_back_7 18 rfl rfl)
theorem dX0_back_182 : decode cX0_back 182 = .ok (.invokevirtual 337, 3) := dk_182 1 81 (dk_at dksX0_back_7 19 rfl rfl)
theorem dX0_back_185 : decode cX0_back 185 = .ok (.aload_n 0, 1) := dk_42 (dk_at dksX0_back_7 22 rfl rfl)
theorem dX0_back_186 : decode cX0_back 186 = .ok (.getfield 334, 3) := dk_180 1 78 (dk_at dksX0_back_8 0 rfl rfl)
theorem dX0_back_189 : decode cX0_back 189 = .ok (.ifCond .le 14, 3) := dk_158 0 14 (dk_at dksX0_back_8 3 rfl rfl)
theorem dX0_back_192 : decode cX0_back 192 = .ok (.aload_n 0, 1) := dk_42 (dk_at dksX0_back_8 6 rfl rfl)
theorem dX0_back_193 : decode cX0_back 193 = .ok (.iload_n 3, 1) := dk_29 (dk_at dksX0_back_8 7 rfl rfl)
theorem dX0_back_194 : decode cX0_back 194 = .ok (.aload_n 0, 1) := dk_42 (dk_at dksX0_back_8 8 rfl rfl)
theorem dX0_back_195 : decode cX0_back 195 = .ok (.getfield 96, 3) := dk_180 0 96 (dk_at dksX0_back_8 9 rfl rfl)
theorem dX0_back_198 : decode cX0_back 198 = .ok (.iload_n 2, 1) := dk_28 (dk_at dksX0_back_8 12 rfl rfl)
theorem dX0_back_199 : decode cX0_back 199 = .ok (.invokevirtual 295, 3) := dk_182 1 39 (dk_at dksX0_back_8 13 rfl rfl)
theorem dX0_back_202 : decode cX0_back 202 = .ok (.pop, 1) := dk_87 (dk_at dksX0_back_8 16 rfl rfl)
theorem dX0_back_203 : decode cX0_back 203 = .ok (.aload_n 0, 1) := dk_42 (dk_at dksX0_back_8 17 rfl rfl)
theorem dX0_back_204 : decode cX0_back 204 = .ok (.getfield 334, 3) := dk_180 1 78 (dk_at dksX0_back_8 18 rfl rfl)
theorem dX0_back_207 : decode cX0_back 207 = .ok (.ireturn, 1) := dk_172 (dk_at dksX0_back_8 21 rfl rfl)
abbrev cX0_backOn : ByteArray := prog_1_method_66_code
def yX0_backOn : MethodName := ⟨RX0, "backOn", "(II)V"⟩
def dkwX0_backOn_4 : List UInt8 := [132, 3, 1, 167, 255, 213, 177]
abbrev dktX0_backOn_4 : List UInt8 := dkwX0_backOn_4 ++ []
def dkwX0_backOn_3 : List UInt8 := [27, 50, 182, 0, 212, 153, 0, 17, 42, 27, 29, 182, 1, 50, 42, 27, 4, 96, 28, 182, 1, 81]
abbrev dktX0_backOn_3 : List UInt8 := dkwX0_backOn_3 ++ dktX0_backOn_4
def dkwX0_backOn_2 : List UInt8 := [181, 1, 78, 177, 3, 62, 29, 42, 180, 0, 191, 162, 0, 41, 42, 180, 0, 44, 29, 50, 42, 180, 0, 89]
abbrev dktX0_backOn_2 : List UInt8 := dkwX0_backOn_2 ++ dktX0_backOn_3
def dkwX0_backOn_1 : List UInt8 := [154, 0, 17, 42, 180, 0, 93, 3, 42, 180, 0, 96, 3, 27, 184, 0, 130, 42, 89, 180, 1, 78, 4, 96]
abbrev dktX0_backOn_1 : List UInt8 := dkwX0_backOn_1 ++ dktX0_backOn_2
def dkwX0_backOn_0 : List UInt8 := [27, 28, 160, 0, 48, 42, 42, 180, 0, 89, 27, 50, 182, 1, 75, 153, 0, 34, 42, 180, 1, 78]
abbrev dktX0_backOn_0 : List UInt8 := dkwX0_backOn_0 ++ dktX0_backOn_1
theorem dksX0_backOn_0 : cX0_backOn.data.toList.drop 0 = dktX0_backOn_0 := by decide +kernel
theorem dksX0_backOn_1 : cX0_backOn.data.toList.drop 22 = dktX0_backOn_1 := dk_seg dksX0_backOn_0 22 rfl rfl
theorem dksX0_backOn_2 : cX0_backOn.data.toList.drop 46 = dktX0_backOn_2 := dk_seg dksX0_backOn_1 24 rfl rfl
theorem dksX0_backOn_3 : cX0_backOn.data.toList.drop 70 = dktX0_backOn_3 := dk_seg dksX0_backOn_2 24 rfl rfl
theorem dksX0_backOn_4 : cX0_backOn.data.toList.drop 92 = dktX0_backOn_4 := dk_seg dksX0_backOn_3 22 rfl rfl
theorem dX0_backOn_0 : decode cX0_backOn 0 = .ok (.iload_n 1, 1) := dk_27 (dk_at dksX0_backOn_0 0 rfl rfl)
theorem dX0_backOn_1 : decode cX0_backOn 1 = .ok (.iload_n 2, 1) := dk_28 (dk_at dksX0_backOn_0 1 rfl rfl)
theorem dX0_backOn_2 : decode cX0_backOn 2 = .ok (.if_icmp .ne 48, 3) := dk_160 0 48 (dk_at dksX0_backOn_0 2 rfl rfl)
theorem dX0_backOn_5 : decode cX0_backOn 5 = .ok (.aload_n 0, 1) := dk_42 (dk_at dksX0_backOn_0 5 rfl rfl)
theorem dX0_backOn_6 : decode cX0_backOn 6 = .ok (.aload_n 0, 1) := dk_42 (dk_at dksX0_backOn_0 6 rfl rfl)
theorem dX0_backOn_7 : decode cX0_backOn 7 = .ok (.getfield 89, 3) := dk_180 0 89 (dk_at dksX0_backOn_0 7 rfl rfl)
theorem dX0_backOn_10 : decode cX0_backOn 10 = .ok (.iload_n 1, 1) := dk_27 (dk_at dksX0_backOn_0 10 rfl rfl)
theorem dX0_backOn_11 : decode cX0_backOn 11 = .ok (.aaload, 1) := dk_50 (dk_at dksX0_backOn_0 11 rfl rfl)
theorem dX0_backOn_12 : decode cX0_backOn 12 = .ok (.invokevirtual 331, 3) := dk_182 1 75 (dk_at dksX0_backOn_0 12 rfl rfl)
theorem dX0_backOn_15 : decode cX0_backOn 15 = .ok (.ifCond .eq 34, 3) := dk_153 0 34 (dk_at dksX0_backOn_0 15 rfl rfl)
theorem dX0_backOn_18 : decode cX0_backOn 18 = .ok (.aload_n 0, 1) := dk_42 (dk_at dksX0_backOn_0 18 rfl rfl)
theorem dX0_backOn_19 : decode cX0_backOn 19 = .ok (.getfield 334, 3) := dk_180 1 78 (dk_at dksX0_backOn_0 19 rfl rfl)
theorem dX0_backOn_22 : decode cX0_backOn 22 = .ok (.ifCond .ne 17, 3) := dk_154 0 17 (dk_at dksX0_backOn_1 0 rfl rfl)
theorem dX0_backOn_25 : decode cX0_backOn 25 = .ok (.aload_n 0, 1) := dk_42 (dk_at dksX0_backOn_1 3 rfl rfl)
theorem dX0_backOn_26 : decode cX0_backOn 26 = .ok (.getfield 93, 3) := dk_180 0 93 (dk_at dksX0_backOn_1 4 rfl rfl)
theorem dX0_backOn_29 : decode cX0_backOn 29 = .ok (.iconst 0, 1) := dk_3 (dk_at dksX0_backOn_1 7 rfl rfl)
theorem dX0_backOn_30 : decode cX0_backOn 30 = .ok (.aload_n 0, 1) := dk_42 (dk_at dksX0_backOn_1 8 rfl rfl)
theorem dX0_backOn_31 : decode cX0_backOn 31 = .ok (.getfield 96, 3) := dk_180 0 96 (dk_at dksX0_backOn_1 9 rfl rfl)
theorem dX0_backOn_34 : decode cX0_backOn 34 = .ok (.iconst 0, 1) := dk_3 (dk_at dksX0_backOn_1 12 rfl rfl)
theorem dX0_backOn_35 : decode cX0_backOn 35 = .ok (.iload_n 1, 1) := dk_27 (dk_at dksX0_backOn_1 13 rfl rfl)
theorem dX0_backOn_36 : decode cX0_backOn 36 = .ok (.invokestatic 130, 3) := dk_184 0 130 (dk_at dksX0_backOn_1 14 rfl rfl)
theorem dX0_backOn_39 : decode cX0_backOn 39 = .ok (.aload_n 0, 1) := dk_42 (dk_at dksX0_backOn_1 17 rfl rfl)
theorem dX0_backOn_40 : decode cX0_backOn 40 = .ok (.dup, 1) := dk_89 (dk_at dksX0_backOn_1 18 rfl rfl)
theorem dX0_backOn_41 : decode cX0_backOn 41 = .ok (.getfield 334, 3) := dk_180 1 78 (dk_at dksX0_backOn_1 19 rfl rfl)
theorem dX0_backOn_44 : decode cX0_backOn 44 = .ok (.iconst 1, 1) := dk_4 (dk_at dksX0_backOn_1 22 rfl rfl)
theorem dX0_backOn_45 : decode cX0_backOn 45 = .ok (.iadd, 1) := dk_96 (dk_at dksX0_backOn_1 23 rfl rfl)
theorem dX0_backOn_46 : decode cX0_backOn 46 = .ok (.putfield 334, 3) := dk_181 1 78 (dk_at dksX0_backOn_2 0 rfl rfl)
theorem dX0_backOn_49 : decode cX0_backOn 49 = .ok (.return_, 1) := dk_177 (dk_at dksX0_backOn_2 3 rfl rfl)
theorem dX0_backOn_50 : decode cX0_backOn 50 = .ok (.iconst 0, 1) := dk_3 (dk_at dksX0_backOn_2 4 rfl rfl)
theorem dX0_backOn_51 : decode cX0_backOn 51 = .ok (.istore_n 3, 1) := dk_62 (dk_at dksX0_backOn_2 5 rfl rfl)
theorem dX0_backOn_52 : decode cX0_backOn 52 = .ok (.iload_n 3, 1) := dk_29 (dk_at dksX0_backOn_2 6 rfl rfl)
theorem dX0_backOn_53 : decode cX0_backOn 53 = .ok (.aload_n 0, 1) := dk_42 (dk_at dksX0_backOn_2 7 rfl rfl)
theorem dX0_backOn_54 : decode cX0_backOn 54 = .ok (.getfield 191, 3) := dk_180 0 191 (dk_at dksX0_backOn_2 8 rfl rfl)
theorem dX0_backOn_57 : decode cX0_backOn 57 = .ok (.if_icmp .ge 41, 3) := dk_162 0 41 (dk_at dksX0_backOn_2 11 rfl rfl)
theorem dX0_backOn_60 : decode cX0_backOn 60 = .ok (.aload_n 0, 1) := dk_42 (dk_at dksX0_backOn_2 14 rfl rfl)
theorem dX0_backOn_61 : decode cX0_backOn 61 = .ok (.getfield 44, 3) := dk_180 0 44 (dk_at dksX0_backOn_2 15 rfl rfl)
theorem dX0_backOn_64 : decode cX0_backOn 64 = .ok (.iload_n 3, 1) := dk_29 (dk_at dksX0_backOn_2 18 rfl rfl)
theorem dX0_backOn_65 : decode cX0_backOn 65 = .ok (.aaload, 1) := dk_50 (dk_at dksX0_backOn_2 19 rfl rfl)
theorem dX0_backOn_66 : decode cX0_backOn 66 = .ok (.aload_n 0, 1) := dk_42 (dk_at dksX0_backOn_2 20 rfl rfl)
theorem dX0_backOn_67 : decode cX0_backOn 67 = .ok (.getfield 89, 3) := dk_180 0 89 (dk_at dksX0_backOn_2 21 rfl rfl)
theorem dX0_backOn_70 : decode cX0_backOn 70 = .ok (.iload_n 1, 1) := dk_27 (dk_at dksX0_backOn_3 0 rfl rfl)
theorem dX0_backOn_71 : decode cX0_backOn 71 = .ok (.aaload, 1) := dk_50 (dk_at dksX0_backOn_3 1 rfl rfl)
theorem dX0_backOn_72 : decode cX0_backOn 72 = .ok (.invokevirtual 212, 3) := dk_182 0 212 (dk_at dksX0_backOn_3 2 rfl rfl)
theorem dX0_backOn_75 : decode cX0_backOn 75 = .ok (.ifCond .eq 17, 3) := dk_153 0 17 (dk_at dksX0_backOn_3 5 rfl rfl)
theorem dX0_backOn_78 : decode cX0_backOn 78 = .ok (.aload_n 0, 1) := dk_42 (dk_at dksX0_backOn_3 8 rfl rfl)
theorem dX0_backOn_79 : decode cX0_backOn 79 = .ok (.iload_n 1, 1) := dk_27 (dk_at dksX0_backOn_3 9 rfl rfl)
theorem dX0_backOn_80 : decode cX0_backOn 80 = .ok (.iload_n 3, 1) := dk_29 (dk_at dksX0_backOn_3 10 rfl rfl)
theorem dX0_backOn_81 : decode cX0_backOn 81 = .ok (.invokevirtual 306, 3) := dk_182 1 50 (dk_at dksX0_backOn_3 11 rfl rfl)
theorem dX0_backOn_84 : decode cX0_backOn 84 = .ok (.aload_n 0, 1) := dk_42 (dk_at dksX0_backOn_3 14 rfl rfl)
theorem dX0_backOn_85 : decode cX0_backOn 85 = .ok (.iload_n 1, 1) := dk_27 (dk_at dksX0_backOn_3 15 rfl rfl)
theorem dX0_backOn_86 : decode cX0_backOn 86 = .ok (.iconst 1, 1) := dk_4 (dk_at dksX0_backOn_3 16 rfl rfl)
theorem dX0_backOn_87 : decode cX0_backOn 87 = .ok (.iadd, 1) := dk_96 (dk_at dksX0_backOn_3 17 rfl rfl)
theorem dX0_backOn_88 : decode cX0_backOn 88 = .ok (.iload_n 2, 1) := dk_28 (dk_at dksX0_backOn_3 18 rfl rfl)
theorem dX0_backOn_89 : decode cX0_backOn 89 = .ok (.invokevirtual 337, 3) := dk_182 1 81 (dk_at dksX0_backOn_3 19 rfl rfl)
theorem dX0_backOn_92 : decode cX0_backOn 92 = .ok (.iinc 3 1, 3) := dk_132 3 1 (dk_at dksX0_backOn_4 0 rfl rfl)
theorem dX0_backOn_95 : decode cX0_backOn 95 = .ok (.goto (-43), 3) := dk_167 255 213 (dk_at dksX0_backOn_4 3 rfl rfl)
theorem dX0_backOn_98 : decode cX0_backOn 98 = .ok (.return_, 1) := dk_177 (dk_at dksX0_backOn_4 6 rfl rfl)
abbrev cX0_liesAsNow : ByteArray := prog_1_method_65_code
def yX0_liesAsNow : MethodName := ⟨RX0, "liesAsNow", "(LSandPiano$Sands;)Z"⟩
def dkwX0_liesAsNow_1 : List UInt8 := [180, 0, 194, 29, 46, 160, 0, 7, 4, 167, 0, 4, 3, 126, 61, 132, 3, 1, 167, 255, 219, 28, 172]
abbrev dktX0_liesAsNow_1 : List UInt8 := dkwX0_liesAsNow_1 ++ []
def dkwX0_liesAsNow_0 : List UInt8 := [4, 61, 3, 62, 29, 42, 180, 0, 191, 162, 0, 35, 28, 43, 180, 0, 194, 29, 46, 42, 180, 0, 51]
abbrev dktX0_liesAsNow_0 : List UInt8 := dkwX0_liesAsNow_0 ++ dktX0_liesAsNow_1
theorem dksX0_liesAsNow_0 : cX0_liesAsNow.data.toList.drop 0 = dktX0_liesAsNow_0 := by decide +kernel
theorem dksX0_liesAsNow_1 : cX0_liesAsNow.data.toList.drop 23 = dktX0_liesAsNow_1 := dk_seg dksX0_liesAsNow_0 23 rfl rfl
theorem dX0_liesAsNow_0 : decode cX0_liesAsNow 0 = .ok (.iconst 1, 1) := dk_4 (dk_at dksX0_liesAsNow_0 0 rfl rfl)
theorem dX0_liesAsNow_1 : decode cX0_liesAsNow 1 = .ok (.istore_n 2, 1) := dk_61 (dk_at dksX0_liesAsNow_0 1 rfl rfl)
theorem dX0_liesAsNow_2 : decode cX0_liesAsNow 2 = .ok (.iconst 0, 1) := dk_3 (dk_at dksX0_liesAsNow_0 2 rfl rfl)
theorem dX0_liesAsNow_3 : decode cX0_liesAsNow 3 = .ok (.istore_n 3, 1) := dk_62 (dk_at dksX0_liesAsNow_0 3 rfl rfl)
theorem dX0_liesAsNow_4 : decode cX0_liesAsNow 4 = .ok (.iload_n 3, 1) := dk_29 (dk_at dksX0_liesAsNow_0 4 rfl rfl)
theorem dX0_liesAsNow_5 : decode cX0_liesAsNow 5 = .ok (.aload_n 0, 1) := dk_42 (dk_at dksX0_liesAsNow_0 5 rfl rfl)
theorem dX0_liesAsNow_6 : decode cX0_liesAsNow 6 = .ok (.getfield 191, 3) := dk_180 0 191 (dk_at dksX0_liesAsNow_0 6 rfl rfl)
theorem dX0_liesAsNow_9 : decode cX0_liesAsNow 9 = .ok (.if_icmp .ge 35, 3) := dk_162 0 35 (dk_at dksX0_liesAsNow_0 9 rfl rfl)
theorem dX0_liesAsNow_12 : decode cX0_liesAsNow 12 = .ok (.iload_n 2, 1) := dk_28 (dk_at dksX0_liesAsNow_0 12 rfl rfl)
theorem dX0_liesAsNow_13 : decode cX0_liesAsNow 13 = .ok (.aload_n 1, 1) := dk_43 (dk_at dksX0_liesAsNow_0 13 rfl rfl)
theorem dX0_liesAsNow_14 : decode cX0_liesAsNow 14 = .ok (.getfield 194, 3) := dk_180 0 194 (dk_at dksX0_liesAsNow_0 14 rfl rfl)
theorem dX0_liesAsNow_17 : decode cX0_liesAsNow 17 = .ok (.iload_n 3, 1) := dk_29 (dk_at dksX0_liesAsNow_0 17 rfl rfl)
theorem dX0_liesAsNow_18 : decode cX0_liesAsNow 18 = .ok (.iaload, 1) := dk_46 (dk_at dksX0_liesAsNow_0 18 rfl rfl)
theorem dX0_liesAsNow_19 : decode cX0_liesAsNow 19 = .ok (.aload_n 0, 1) := dk_42 (dk_at dksX0_liesAsNow_0 19 rfl rfl)
theorem dX0_liesAsNow_20 : decode cX0_liesAsNow 20 = .ok (.getfield 51, 3) := dk_180 0 51 (dk_at dksX0_liesAsNow_0 20 rfl rfl)
theorem dX0_liesAsNow_23 : decode cX0_liesAsNow 23 = .ok (.getfield 194, 3) := dk_180 0 194 (dk_at dksX0_liesAsNow_1 0 rfl rfl)
theorem dX0_liesAsNow_26 : decode cX0_liesAsNow 26 = .ok (.iload_n 3, 1) := dk_29 (dk_at dksX0_liesAsNow_1 3 rfl rfl)
theorem dX0_liesAsNow_27 : decode cX0_liesAsNow 27 = .ok (.iaload, 1) := dk_46 (dk_at dksX0_liesAsNow_1 4 rfl rfl)
theorem dX0_liesAsNow_28 : decode cX0_liesAsNow 28 = .ok (.if_icmp .ne 7, 3) := dk_160 0 7 (dk_at dksX0_liesAsNow_1 5 rfl rfl)
theorem dX0_liesAsNow_31 : decode cX0_liesAsNow 31 = .ok (.iconst 1, 1) := dk_4 (dk_at dksX0_liesAsNow_1 8 rfl rfl)
theorem dX0_liesAsNow_32 : decode cX0_liesAsNow 32 = .ok (.goto 4, 3) := dk_167 0 4 (dk_at dksX0_liesAsNow_1 9 rfl rfl)
theorem dX0_liesAsNow_35 : decode cX0_liesAsNow 35 = .ok (.iconst 0, 1) := dk_3 (dk_at dksX0_liesAsNow_1 12 rfl rfl)
theorem dX0_liesAsNow_36 : decode cX0_liesAsNow 36 = .ok (.iand, 1) := dk_126 (dk_at dksX0_liesAsNow_1 13 rfl rfl)
theorem dX0_liesAsNow_37 : decode cX0_liesAsNow 37 = .ok (.istore_n 2, 1) := dk_61 (dk_at dksX0_liesAsNow_1 14 rfl rfl)
theorem dX0_liesAsNow_38 : decode cX0_liesAsNow 38 = .ok (.iinc 3 1, 3) := dk_132 3 1 (dk_at dksX0_liesAsNow_1 15 rfl rfl)
theorem dX0_liesAsNow_41 : decode cX0_liesAsNow 41 = .ok (.goto (-37), 3) := dk_167 255 219 (dk_at dksX0_liesAsNow_1 18 rfl rfl)
theorem dX0_liesAsNow_44 : decode cX0_liesAsNow 44 = .ok (.iload_n 2, 1) := dk_28 (dk_at dksX0_liesAsNow_1 21 rfl rfl)
theorem dX0_liesAsNow_45 : decode cX0_liesAsNow 45 = .ok (.ireturn, 1) := dk_172 (dk_at dksX0_liesAsNow_1 22 rfl rfl)
abbrev cX0_ring : ByteArray := prog_1_method_71_code
def yX0_ring : MethodName := ⟨RX0, "ring", "(I)I"⟩
def dkwX0_ring_1 : List UInt8 := [42, 180, 0, 32, 27, 50, 182, 1, 90, 172]
abbrev dktX0_ring_1 : List UInt8 := dkwX0_ring_1 ++ []
def dkwX0_ring_0 : List UInt8 := [27, 184, 0, 109, 154, 0, 5, 2, 172, 42, 27, 182, 1, 87, 61, 28, 156, 0, 7, 28, 167, 0, 13, 42]
abbrev dktX0_ring_0 : List UInt8 := dkwX0_ring_0 ++ dktX0_ring_1
theorem dksX0_ring_0 : cX0_ring.data.toList.drop 0 = dktX0_ring_0 := by decide +kernel
theorem dksX0_ring_1 : cX0_ring.data.toList.drop 24 = dktX0_ring_1 := dk_seg dksX0_ring_0 24 rfl rfl
theorem dX0_ring_0 : decode cX0_ring 0 = .ok (.iload_n 1, 1) := dk_27 (dk_at dksX0_ring_0 0 rfl rfl)
theorem dX0_ring_1 : decode cX0_ring 1 = .ok (.invokestatic 109, 3) := dk_184 0 109 (dk_at dksX0_ring_0 1 rfl rfl)
theorem dX0_ring_4 : decode cX0_ring 4 = .ok (.ifCond .ne 5, 3) := dk_154 0 5 (dk_at dksX0_ring_0 4 rfl rfl)
theorem dX0_ring_7 : decode cX0_ring 7 = .ok (.iconst (-1), 1) := dk_2 (dk_at dksX0_ring_0 7 rfl rfl)
theorem dX0_ring_8 : decode cX0_ring 8 = .ok (.ireturn, 1) := dk_172 (dk_at dksX0_ring_0 8 rfl rfl)
theorem dX0_ring_9 : decode cX0_ring 9 = .ok (.aload_n 0, 1) := dk_42 (dk_at dksX0_ring_0 9 rfl rfl)
theorem dX0_ring_10 : decode cX0_ring 10 = .ok (.iload_n 1, 1) := dk_27 (dk_at dksX0_ring_0 10 rfl rfl)
theorem dX0_ring_11 : decode cX0_ring 11 = .ok (.invokevirtual 343, 3) := dk_182 1 87 (dk_at dksX0_ring_0 11 rfl rfl)
theorem dX0_ring_14 : decode cX0_ring 14 = .ok (.istore_n 2, 1) := dk_61 (dk_at dksX0_ring_0 14 rfl rfl)
theorem dX0_ring_15 : decode cX0_ring 15 = .ok (.iload_n 2, 1) := dk_28 (dk_at dksX0_ring_0 15 rfl rfl)
theorem dX0_ring_16 : decode cX0_ring 16 = .ok (.ifCond .ge 7, 3) := dk_156 0 7 (dk_at dksX0_ring_0 16 rfl rfl)
theorem dX0_ring_19 : decode cX0_ring 19 = .ok (.iload_n 2, 1) := dk_28 (dk_at dksX0_ring_0 19 rfl rfl)
theorem dX0_ring_20 : decode cX0_ring 20 = .ok (.goto 13, 3) := dk_167 0 13 (dk_at dksX0_ring_0 20 rfl rfl)
theorem dX0_ring_23 : decode cX0_ring 23 = .ok (.aload_n 0, 1) := dk_42 (dk_at dksX0_ring_0 23 rfl rfl)
theorem dX0_ring_24 : decode cX0_ring 24 = .ok (.aload_n 0, 1) := dk_42 (dk_at dksX0_ring_1 0 rfl rfl)
theorem dX0_ring_25 : decode cX0_ring 25 = .ok (.getfield 32, 3) := dk_180 0 32 (dk_at dksX0_ring_1 1 rfl rfl)
theorem dX0_ring_28 : decode cX0_ring 28 = .ok (.iload_n 1, 1) := dk_27 (dk_at dksX0_ring_1 4 rfl rfl)
theorem dX0_ring_29 : decode cX0_ring 29 = .ok (.aaload, 1) := dk_50 (dk_at dksX0_ring_1 5 rfl rfl)
theorem dX0_ring_30 : decode cX0_ring 30 = .ok (.invokevirtual 346, 3) := dk_182 1 90 (dk_at dksX0_ring_1 6 rfl rfl)
theorem dX0_ring_33 : decode cX0_ring 33 = .ok (.ireturn, 1) := dk_172 (dk_at dksX0_ring_1 9 rfl rfl)
abbrev cX0_askedSong : ByteArray := prog_1_method_68_code
def yX0_askedSong : MethodName := ⟨RX0, "askedSong", "(I)I"⟩
def dkwX0_askedSong_3 : List UInt8 := [172, 132, 3, 2, 167, 255, 218, 3, 172]
abbrev dktX0_askedSong_3 : List UInt8 := dkwX0_askedSong_3 ++ []
def dkwX0_askedSong_2 : List UInt8 := [182, 0, 216, 153, 0, 16, 44, 29, 4, 96, 46, 3, 4, 184, 0, 105, 154, 0, 9, 42, 6, 182, 0, 115]
abbrev dktX0_askedSong_2 : List UInt8 := dkwX0_askedSong_2 ++ dktX0_askedSong_3
def dkwX0_askedSong_1 : List UInt8 := [5, 112, 153, 0, 9, 42, 8, 182, 0, 115, 172, 3, 62, 29, 44, 190, 162, 0, 38, 42, 44, 29, 46]
abbrev dktX0_askedSong_1 : List UInt8 := dkwX0_askedSong_1 ++ dktX0_askedSong_2
def dkwX0_askedSong_0 : List UInt8 := [42, 180, 0, 32, 27, 50, 199, 0, 9, 42, 4, 182, 0, 115, 172, 42, 180, 0, 32, 27, 50, 77, 44, 190]
abbrev dktX0_askedSong_0 : List UInt8 := dkwX0_askedSong_0 ++ dktX0_askedSong_1
theorem dksX0_askedSong_0 : cX0_askedSong.data.toList.drop 0 = dktX0_askedSong_0 := by decide +kernel
theorem dksX0_askedSong_1 : cX0_askedSong.data.toList.drop 24 = dktX0_askedSong_1 := dk_seg dksX0_askedSong_0 24 rfl rfl
theorem dksX0_askedSong_2 : cX0_askedSong.data.toList.drop 47 = dktX0_askedSong_2 := dk_seg dksX0_askedSong_1 23 rfl rfl
theorem dksX0_askedSong_3 : cX0_askedSong.data.toList.drop 71 = dktX0_askedSong_3 := dk_seg dksX0_askedSong_2 24 rfl rfl
theorem dX0_askedSong_0 : decode cX0_askedSong 0 = .ok (.aload_n 0, 1) := dk_42 (dk_at dksX0_askedSong_0 0 rfl rfl)
theorem dX0_askedSong_1 : decode cX0_askedSong 1 = .ok (.getfield 32, 3) := dk_180 0 32 (dk_at dksX0_askedSong_0 1 rfl rfl)
theorem dX0_askedSong_4 : decode cX0_askedSong 4 = .ok (.iload_n 1, 1) := dk_27 (dk_at dksX0_askedSong_0 4 rfl rfl)
theorem dX0_askedSong_5 : decode cX0_askedSong 5 = .ok (.aaload, 1) := dk_50 (dk_at dksX0_askedSong_0 5 rfl rfl)
theorem dX0_askedSong_6 : decode cX0_askedSong 6 = .ok (.ifnonnull 9, 3) := dk_199 0 9 (dk_at dksX0_askedSong_0 6 rfl rfl)
theorem dX0_askedSong_9 : decode cX0_askedSong 9 = .ok (.aload_n 0, 1) := dk_42 (dk_at dksX0_askedSong_0 9 rfl rfl)
theorem dX0_askedSong_10 : decode cX0_askedSong 10 = .ok (.iconst 1, 1) := dk_4 (dk_at dksX0_askedSong_0 10 rfl rfl)
theorem dX0_askedSong_11 : decode cX0_askedSong 11 = .ok (.invokevirtual 115, 3) := dk_182 0 115 (dk_at dksX0_askedSong_0 11 rfl rfl)
theorem dX0_askedSong_14 : decode cX0_askedSong 14 = .ok (.ireturn, 1) := dk_172 (dk_at dksX0_askedSong_0 14 rfl rfl)
theorem dX0_askedSong_15 : decode cX0_askedSong 15 = .ok (.aload_n 0, 1) := dk_42 (dk_at dksX0_askedSong_0 15 rfl rfl)
theorem dX0_askedSong_16 : decode cX0_askedSong 16 = .ok (.getfield 32, 3) := dk_180 0 32 (dk_at dksX0_askedSong_0 16 rfl rfl)
theorem dX0_askedSong_19 : decode cX0_askedSong 19 = .ok (.iload_n 1, 1) := dk_27 (dk_at dksX0_askedSong_0 19 rfl rfl)
theorem dX0_askedSong_20 : decode cX0_askedSong 20 = .ok (.aaload, 1) := dk_50 (dk_at dksX0_askedSong_0 20 rfl rfl)
theorem dX0_askedSong_21 : decode cX0_askedSong 21 = .ok (.astore_n 2, 1) := dk_77 (dk_at dksX0_askedSong_0 21 rfl rfl)
theorem dX0_askedSong_22 : decode cX0_askedSong 22 = .ok (.aload_n 2, 1) := dk_44 (dk_at dksX0_askedSong_0 22 rfl rfl)
theorem dX0_askedSong_23 : decode cX0_askedSong 23 = .ok (.arraylength, 1) := dk_190 (dk_at dksX0_askedSong_0 23 rfl rfl)
theorem dX0_askedSong_24 : decode cX0_askedSong 24 = .ok (.iconst 2, 1) := dk_5 (dk_at dksX0_askedSong_1 0 rfl rfl)
theorem dX0_askedSong_25 : decode cX0_askedSong 25 = .ok (.irem, 1) := dk_112 (dk_at dksX0_askedSong_1 1 rfl rfl)
theorem dX0_askedSong_26 : decode cX0_askedSong 26 = .ok (.ifCond .eq 9, 3) := dk_153 0 9 (dk_at dksX0_askedSong_1 2 rfl rfl)
theorem dX0_askedSong_29 : decode cX0_askedSong 29 = .ok (.aload_n 0, 1) := dk_42 (dk_at dksX0_askedSong_1 5 rfl rfl)
theorem dX0_askedSong_30 : decode cX0_askedSong 30 = .ok (.iconst 5, 1) := dk_8 (dk_at dksX0_askedSong_1 6 rfl rfl)
theorem dX0_askedSong_31 : decode cX0_askedSong 31 = .ok (.invokevirtual 115, 3) := dk_182 0 115 (dk_at dksX0_askedSong_1 7 rfl rfl)
theorem dX0_askedSong_34 : decode cX0_askedSong 34 = .ok (.ireturn, 1) := dk_172 (dk_at dksX0_askedSong_1 10 rfl rfl)
theorem dX0_askedSong_35 : decode cX0_askedSong 35 = .ok (.iconst 0, 1) := dk_3 (dk_at dksX0_askedSong_1 11 rfl rfl)
theorem dX0_askedSong_36 : decode cX0_askedSong 36 = .ok (.istore_n 3, 1) := dk_62 (dk_at dksX0_askedSong_1 12 rfl rfl)
theorem dX0_askedSong_37 : decode cX0_askedSong 37 = .ok (.iload_n 3, 1) := dk_29 (dk_at dksX0_askedSong_1 13 rfl rfl)
theorem dX0_askedSong_38 : decode cX0_askedSong 38 = .ok (.aload_n 2, 1) := dk_44 (dk_at dksX0_askedSong_1 14 rfl rfl)
theorem dX0_askedSong_39 : decode cX0_askedSong 39 = .ok (.arraylength, 1) := dk_190 (dk_at dksX0_askedSong_1 15 rfl rfl)
theorem dX0_askedSong_40 : decode cX0_askedSong 40 = .ok (.if_icmp .ge 38, 3) := dk_162 0 38 (dk_at dksX0_askedSong_1 16 rfl rfl)
theorem dX0_askedSong_43 : decode cX0_askedSong 43 = .ok (.aload_n 0, 1) := dk_42 (dk_at dksX0_askedSong_1 19 rfl rfl)
theorem dX0_askedSong_44 : decode cX0_askedSong 44 = .ok (.aload_n 2, 1) := dk_44 (dk_at dksX0_askedSong_1 20 rfl rfl)
theorem dX0_askedSong_45 : decode cX0_askedSong 45 = .ok (.iload_n 3, 1) := dk_29 (dk_at dksX0_askedSong_1 21 rfl rfl)
theorem dX0_askedSong_46 : decode cX0_askedSong 46 = .ok (.iaload, 1) := dk_46 (dk_at dksX0_askedSong_1 22 rfl rfl)
theorem dX0_askedSong_47 : decode cX0_askedSong 47 = .ok (.invokevirtual 216, 3) := dk_182 0 216 (dk_at dksX0_askedSong_2 0 rfl rfl)
theorem dX0_askedSong_50 : decode cX0_askedSong 50 = .ok (.ifCond .eq 16, 3) := dk_153 0 16 (dk_at dksX0_askedSong_2 3 rfl rfl)
theorem dX0_askedSong_53 : decode cX0_askedSong 53 = .ok (.aload_n 2, 1) := dk_44 (dk_at dksX0_askedSong_2 6 rfl rfl)
theorem dX0_askedSong_54 : decode cX0_askedSong 54 = .ok (.iload_n 3, 1) := dk_29 (dk_at dksX0_askedSong_2 7 rfl rfl)
theorem dX0_askedSong_55 : decode cX0_askedSong 55 = .ok (.iconst 1, 1) := dk_4 (dk_at dksX0_askedSong_2 8 rfl rfl)
theorem dX0_askedSong_56 : decode cX0_askedSong 56 = .ok (.iadd, 1) := dk_96 (dk_at dksX0_askedSong_2 9 rfl rfl)
theorem dX0_askedSong_57 : decode cX0_askedSong 57 = .ok (.iaload, 1) := dk_46 (dk_at dksX0_askedSong_2 10 rfl rfl)
theorem dX0_askedSong_58 : decode cX0_askedSong 58 = .ok (.iconst 0, 1) := dk_3 (dk_at dksX0_askedSong_2 11 rfl rfl)
theorem dX0_askedSong_59 : decode cX0_askedSong 59 = .ok (.iconst 1, 1) := dk_4 (dk_at dksX0_askedSong_2 12 rfl rfl)
theorem dX0_askedSong_60 : decode cX0_askedSong 60 = .ok (.invokestatic 105, 3) := dk_184 0 105 (dk_at dksX0_askedSong_2 13 rfl rfl)
theorem dX0_askedSong_63 : decode cX0_askedSong 63 = .ok (.ifCond .ne 9, 3) := dk_154 0 9 (dk_at dksX0_askedSong_2 16 rfl rfl)
theorem dX0_askedSong_66 : decode cX0_askedSong 66 = .ok (.aload_n 0, 1) := dk_42 (dk_at dksX0_askedSong_2 19 rfl rfl)
theorem dX0_askedSong_67 : decode cX0_askedSong 67 = .ok (.iconst 3, 1) := dk_6 (dk_at dksX0_askedSong_2 20 rfl rfl)
theorem dX0_askedSong_68 : decode cX0_askedSong 68 = .ok (.invokevirtual 115, 3) := dk_182 0 115 (dk_at dksX0_askedSong_2 21 rfl rfl)
theorem dX0_askedSong_71 : decode cX0_askedSong 71 = .ok (.ireturn, 1) := dk_172 (dk_at dksX0_askedSong_3 0 rfl rfl)
theorem dX0_askedSong_72 : decode cX0_askedSong 72 = .ok (.iinc 3 2, 3) := dk_132 3 2 (dk_at dksX0_askedSong_3 1 rfl rfl)
theorem dX0_askedSong_75 : decode cX0_askedSong 75 = .ok (.goto (-38), 3) := dk_167 255 218 (dk_at dksX0_askedSong_3 4 rfl rfl)
theorem dX0_askedSong_78 : decode cX0_askedSong 78 = .ok (.iconst 0, 1) := dk_3 (dk_at dksX0_askedSong_3 7 rfl rfl)
theorem dX0_askedSong_79 : decode cX0_askedSong 79 = .ok (.ireturn, 1) := dk_172 (dk_at dksX0_askedSong_3 8 rfl rfl)
abbrev cX0_ringSet : ByteArray := prog_1_method_70_code
def yX0_ringSet : MethodName := ⟨RX0, "ringSet", "([I)I"⟩
def dkwX0_ringSet_2 : List UInt8 := [132, 3, 2, 167, 255, 216, 28, 172]
abbrev dktX0_ringSet_2 : List UInt8 := dkwX0_ringSet_2 ++ []
def dkwX0_ringSet_1 : List UInt8 := [160, 0, 13, 42, 43, 29, 46, 182, 1, 84, 167, 0, 12, 42, 43, 29, 46, 182, 1, 84, 2, 130, 126, 61]
abbrev dktX0_ringSet_1 : List UInt8 := dkwX0_ringSet_1 ++ dktX0_ringSet_2
def dkwX0_ringSet_0 : List UInt8 := [4, 42, 180, 0, 191, 120, 4, 100, 61, 3, 62, 29, 43, 190, 162, 0, 40, 28, 43, 29, 4, 96, 46, 4]
abbrev dktX0_ringSet_0 : List UInt8 := dkwX0_ringSet_0 ++ dktX0_ringSet_1
theorem dksX0_ringSet_0 : cX0_ringSet.data.toList.drop 0 = dktX0_ringSet_0 := by decide +kernel
theorem dksX0_ringSet_1 : cX0_ringSet.data.toList.drop 24 = dktX0_ringSet_1 := dk_seg dksX0_ringSet_0 24 rfl rfl
theorem dksX0_ringSet_2 : cX0_ringSet.data.toList.drop 48 = dktX0_ringSet_2 := dk_seg dksX0_ringSet_1 24 rfl rfl
theorem dX0_ringSet_0 : decode cX0_ringSet 0 = .ok (.iconst 1, 1) := dk_4 (dk_at dksX0_ringSet_0 0 rfl rfl)
theorem dX0_ringSet_1 : decode cX0_ringSet 1 = .ok (.aload_n 0, 1) := dk_42 (dk_at dksX0_ringSet_0 1 rfl rfl)
theorem dX0_ringSet_2 : decode cX0_ringSet 2 = .ok (.getfield 191, 3) := dk_180 0 191 (dk_at dksX0_ringSet_0 2 rfl rfl)
theorem dX0_ringSet_5 : decode cX0_ringSet 5 = .ok (.ishl, 1) := dk_120 (dk_at dksX0_ringSet_0 5 rfl rfl)
theorem dX0_ringSet_6 : decode cX0_ringSet 6 = .ok (.iconst 1, 1) := dk_4 (dk_at dksX0_ringSet_0 6 rfl rfl)
theorem dX0_ringSet_7 : decode cX0_ringSet 7 = .ok (.isub, 1) := dk_100 (dk_at dksX0_ringSet_0 7 rfl rfl)
theorem dX0_ringSet_8 : decode cX0_ringSet 8 = .ok (.istore_n 2, 1) := dk_61 (dk_at dksX0_ringSet_0 8 rfl rfl)
theorem dX0_ringSet_9 : decode cX0_ringSet 9 = .ok (.iconst 0, 1) := dk_3 (dk_at dksX0_ringSet_0 9 rfl rfl)
theorem dX0_ringSet_10 : decode cX0_ringSet 10 = .ok (.istore_n 3, 1) := dk_62 (dk_at dksX0_ringSet_0 10 rfl rfl)
theorem dX0_ringSet_11 : decode cX0_ringSet 11 = .ok (.iload_n 3, 1) := dk_29 (dk_at dksX0_ringSet_0 11 rfl rfl)
theorem dX0_ringSet_12 : decode cX0_ringSet 12 = .ok (.aload_n 1, 1) := dk_43 (dk_at dksX0_ringSet_0 12 rfl rfl)
theorem dX0_ringSet_13 : decode cX0_ringSet 13 = .ok (.arraylength, 1) := dk_190 (dk_at dksX0_ringSet_0 13 rfl rfl)
theorem dX0_ringSet_14 : decode cX0_ringSet 14 = .ok (.if_icmp .ge 40, 3) := dk_162 0 40 (dk_at dksX0_ringSet_0 14 rfl rfl)
theorem dX0_ringSet_17 : decode cX0_ringSet 17 = .ok (.iload_n 2, 1) := dk_28 (dk_at dksX0_ringSet_0 17 rfl rfl)
theorem dX0_ringSet_18 : decode cX0_ringSet 18 = .ok (.aload_n 1, 1) := dk_43 (dk_at dksX0_ringSet_0 18 rfl rfl)
theorem dX0_ringSet_19 : decode cX0_ringSet 19 = .ok (.iload_n 3, 1) := dk_29 (dk_at dksX0_ringSet_0 19 rfl rfl)
theorem dX0_ringSet_20 : decode cX0_ringSet 20 = .ok (.iconst 1, 1) := dk_4 (dk_at dksX0_ringSet_0 20 rfl rfl)
theorem dX0_ringSet_21 : decode cX0_ringSet 21 = .ok (.iadd, 1) := dk_96 (dk_at dksX0_ringSet_0 21 rfl rfl)
theorem dX0_ringSet_22 : decode cX0_ringSet 22 = .ok (.iaload, 1) := dk_46 (dk_at dksX0_ringSet_0 22 rfl rfl)
theorem dX0_ringSet_23 : decode cX0_ringSet 23 = .ok (.iconst 1, 1) := dk_4 (dk_at dksX0_ringSet_0 23 rfl rfl)
theorem dX0_ringSet_24 : decode cX0_ringSet 24 = .ok (.if_icmp .ne 13, 3) := dk_160 0 13 (dk_at dksX0_ringSet_1 0 rfl rfl)
theorem dX0_ringSet_27 : decode cX0_ringSet 27 = .ok (.aload_n 0, 1) := dk_42 (dk_at dksX0_ringSet_1 3 rfl rfl)
theorem dX0_ringSet_28 : decode cX0_ringSet 28 = .ok (.aload_n 1, 1) := dk_43 (dk_at dksX0_ringSet_1 4 rfl rfl)
theorem dX0_ringSet_29 : decode cX0_ringSet 29 = .ok (.iload_n 3, 1) := dk_29 (dk_at dksX0_ringSet_1 5 rfl rfl)
theorem dX0_ringSet_30 : decode cX0_ringSet 30 = .ok (.iaload, 1) := dk_46 (dk_at dksX0_ringSet_1 6 rfl rfl)
theorem dX0_ringSet_31 : decode cX0_ringSet 31 = .ok (.invokevirtual 340, 3) := dk_182 1 84 (dk_at dksX0_ringSet_1 7 rfl rfl)
theorem dX0_ringSet_34 : decode cX0_ringSet 34 = .ok (.goto 12, 3) := dk_167 0 12 (dk_at dksX0_ringSet_1 10 rfl rfl)
theorem dX0_ringSet_37 : decode cX0_ringSet 37 = .ok (.aload_n 0, 1) := dk_42 (dk_at dksX0_ringSet_1 13 rfl rfl)
theorem dX0_ringSet_38 : decode cX0_ringSet 38 = .ok (.aload_n 1, 1) := dk_43 (dk_at dksX0_ringSet_1 14 rfl rfl)
theorem dX0_ringSet_39 : decode cX0_ringSet 39 = .ok (.iload_n 3, 1) := dk_29 (dk_at dksX0_ringSet_1 15 rfl rfl)
theorem dX0_ringSet_40 : decode cX0_ringSet 40 = .ok (.iaload, 1) := dk_46 (dk_at dksX0_ringSet_1 16 rfl rfl)
theorem dX0_ringSet_41 : decode cX0_ringSet 41 = .ok (.invokevirtual 340, 3) := dk_182 1 84 (dk_at dksX0_ringSet_1 17 rfl rfl)
theorem dX0_ringSet_44 : decode cX0_ringSet 44 = .ok (.iconst (-1), 1) := dk_2 (dk_at dksX0_ringSet_1 20 rfl rfl)
theorem dX0_ringSet_45 : decode cX0_ringSet 45 = .ok (.ixor, 1) := dk_130 (dk_at dksX0_ringSet_1 21 rfl rfl)
theorem dX0_ringSet_46 : decode cX0_ringSet 46 = .ok (.iand, 1) := dk_126 (dk_at dksX0_ringSet_1 22 rfl rfl)
theorem dX0_ringSet_47 : decode cX0_ringSet 47 = .ok (.istore_n 2, 1) := dk_61 (dk_at dksX0_ringSet_1 23 rfl rfl)
theorem dX0_ringSet_48 : decode cX0_ringSet 48 = .ok (.iinc 3 2, 3) := dk_132 3 2 (dk_at dksX0_ringSet_2 0 rfl rfl)
theorem dX0_ringSet_51 : decode cX0_ringSet 51 = .ok (.goto (-40), 3) := dk_167 255 216 (dk_at dksX0_ringSet_2 3 rfl rfl)
theorem dX0_ringSet_54 : decode cX0_ringSet 54 = .ok (.iload_n 2, 1) := dk_28 (dk_at dksX0_ringSet_2 6 rfl rfl)
theorem dX0_ringSet_55 : decode cX0_ringSet 55 = .ok (.ireturn, 1) := dk_172 (dk_at dksX0_ringSet_2 7 rfl rfl)
abbrev cX0_singsBy : ByteArray := prog_1_method_69_code
def yX0_singsBy : MethodName := ⟨RX0, "singsBy", "(I)I"⟩
def dkwX0_singsBy_1 : List UInt8 := [172]
abbrev dktX0_singsBy_1 : List UInt8 := dkwX0_singsBy_1 ++ []
def dkwX0_singsBy_0 : List UInt8 := [4, 27, 120, 4, 27, 4, 96, 120, 128, 4, 27, 120, 4, 122, 128, 4, 42, 180, 0, 191, 120, 4, 100, 126]
abbrev dktX0_singsBy_0 : List UInt8 := dkwX0_singsBy_0 ++ dktX0_singsBy_1
theorem dksX0_singsBy_0 : cX0_singsBy.data.toList.drop 0 = dktX0_singsBy_0 := by decide +kernel
theorem dksX0_singsBy_1 : cX0_singsBy.data.toList.drop 24 = dktX0_singsBy_1 := dk_seg dksX0_singsBy_0 24 rfl rfl
theorem dX0_singsBy_0 : decode cX0_singsBy 0 = .ok (.iconst 1, 1) := dk_4 (dk_at dksX0_singsBy_0 0 rfl rfl)
theorem dX0_singsBy_1 : decode cX0_singsBy 1 = .ok (.iload_n 1, 1) := dk_27 (dk_at dksX0_singsBy_0 1 rfl rfl)
theorem dX0_singsBy_2 : decode cX0_singsBy 2 = .ok (.ishl, 1) := dk_120 (dk_at dksX0_singsBy_0 2 rfl rfl)
theorem dX0_singsBy_3 : decode cX0_singsBy 3 = .ok (.iconst 1, 1) := dk_4 (dk_at dksX0_singsBy_0 3 rfl rfl)
theorem dX0_singsBy_4 : decode cX0_singsBy 4 = .ok (.iload_n 1, 1) := dk_27 (dk_at dksX0_singsBy_0 4 rfl rfl)
theorem dX0_singsBy_5 : decode cX0_singsBy 5 = .ok (.iconst 1, 1) := dk_4 (dk_at dksX0_singsBy_0 5 rfl rfl)
theorem dX0_singsBy_6 : decode cX0_singsBy 6 = .ok (.iadd, 1) := dk_96 (dk_at dksX0_singsBy_0 6 rfl rfl)
theorem dX0_singsBy_7 : decode cX0_singsBy 7 = .ok (.ishl, 1) := dk_120 (dk_at dksX0_singsBy_0 7 rfl rfl)
theorem dX0_singsBy_8 : decode cX0_singsBy 8 = .ok (.ior, 1) := dk_128 (dk_at dksX0_singsBy_0 8 rfl rfl)
theorem dX0_singsBy_9 : decode cX0_singsBy 9 = .ok (.iconst 1, 1) := dk_4 (dk_at dksX0_singsBy_0 9 rfl rfl)
theorem dX0_singsBy_10 : decode cX0_singsBy 10 = .ok (.iload_n 1, 1) := dk_27 (dk_at dksX0_singsBy_0 10 rfl rfl)
theorem dX0_singsBy_11 : decode cX0_singsBy 11 = .ok (.ishl, 1) := dk_120 (dk_at dksX0_singsBy_0 11 rfl rfl)
theorem dX0_singsBy_12 : decode cX0_singsBy 12 = .ok (.iconst 1, 1) := dk_4 (dk_at dksX0_singsBy_0 12 rfl rfl)
theorem dX0_singsBy_13 : decode cX0_singsBy 13 = .ok (.ishr, 1) := dk_122 (dk_at dksX0_singsBy_0 13 rfl rfl)
theorem dX0_singsBy_14 : decode cX0_singsBy 14 = .ok (.ior, 1) := dk_128 (dk_at dksX0_singsBy_0 14 rfl rfl)
theorem dX0_singsBy_15 : decode cX0_singsBy 15 = .ok (.iconst 1, 1) := dk_4 (dk_at dksX0_singsBy_0 15 rfl rfl)
theorem dX0_singsBy_16 : decode cX0_singsBy 16 = .ok (.aload_n 0, 1) := dk_42 (dk_at dksX0_singsBy_0 16 rfl rfl)
theorem dX0_singsBy_17 : decode cX0_singsBy 17 = .ok (.getfield 191, 3) := dk_180 0 191 (dk_at dksX0_singsBy_0 17 rfl rfl)
theorem dX0_singsBy_20 : decode cX0_singsBy 20 = .ok (.ishl, 1) := dk_120 (dk_at dksX0_singsBy_0 20 rfl rfl)
theorem dX0_singsBy_21 : decode cX0_singsBy 21 = .ok (.iconst 1, 1) := dk_4 (dk_at dksX0_singsBy_0 21 rfl rfl)
theorem dX0_singsBy_22 : decode cX0_singsBy 22 = .ok (.isub, 1) := dk_100 (dk_at dksX0_singsBy_0 22 rfl rfl)
theorem dX0_singsBy_23 : decode cX0_singsBy 23 = .ok (.iand, 1) := dk_126 (dk_at dksX0_singsBy_0 23 rfl rfl)
theorem dX0_singsBy_24 : decode cX0_singsBy 24 = .ok (.ireturn, 1) := dk_172 (dk_at dksX0_singsBy_1 0 rfl rfl)
abbrev cX0_strike : ByteArray := prog_1_method_72_code
def yX0_strike : MethodName := ⟨RX0, "strike", "(I)I"⟩
def dkwX0_strike_5 : List UInt8 := [21, 4, 16, 247, 160, 0, 8, 16, 247, 167, 0, 11, 42, 21, 5, 21, 4, 182, 0, 123, 172]
abbrev dktX0_strike_5 : List UInt8 := dkwX0_strike_5 ++ []
def dkwX0_strike_4 : List UInt8 := [21, 6, 167, 0, 5, 21, 4, 54, 4, 21, 5, 21, 7, 184, 1, 104, 54, 5, 132, 6, 1, 167, 255, 186]
abbrev dktX0_strike_4 : List UInt8 := dkwX0_strike_4 ++ dktX0_strike_5
def dkwX0_strike_3 : List UInt8 := [21, 6, 182, 1, 84, 2, 130, 126, 184, 1, 94, 184, 1, 99, 54, 7, 21, 7, 21, 5, 162, 0, 8]
abbrev dktX0_strike_3 : List UInt8 := dkwX0_strike_3 ++ dktX0_strike_4
def dkwX0_strike_2 : List UInt8 := [180, 0, 191, 162, 0, 67, 29, 153, 0, 63, 29, 42, 21, 6, 182, 1, 84, 126, 184, 1, 94, 29, 42]
abbrev dktX0_strike_2 : List UInt8 := dkwX0_strike_2 ++ dktX0_strike_3
def dkwX0_strike_1 : List UInt8 := [180, 0, 32, 27, 50, 182, 1, 90, 62, 16, 247, 54, 4, 19, 1, 5, 54, 5, 3, 54, 6, 21, 6, 42]
abbrev dktX0_strike_1 : List UInt8 := dkwX0_strike_1 ++ dktX0_strike_2
def dkwX0_strike_0 : List UInt8 := [27, 184, 0, 109, 154, 0, 5, 2, 172, 42, 27, 182, 1, 87, 61, 28, 156, 0, 5, 28, 172, 42, 42]
abbrev dktX0_strike_0 : List UInt8 := dkwX0_strike_0 ++ dktX0_strike_1
theorem dksX0_strike_0 : cX0_strike.data.toList.drop 0 = dktX0_strike_0 := by decide +kernel
theorem dksX0_strike_1 : cX0_strike.data.toList.drop 23 = dktX0_strike_1 := dk_seg dksX0_strike_0 23 rfl rfl
theorem dksX0_strike_2 : cX0_strike.data.toList.drop 47 = dktX0_strike_2 := dk_seg dksX0_strike_1 24 rfl rfl
theorem dksX0_strike_3 : cX0_strike.data.toList.drop 70 = dktX0_strike_3 := dk_seg dksX0_strike_2 23 rfl rfl
theorem dksX0_strike_4 : cX0_strike.data.toList.drop 93 = dktX0_strike_4 := dk_seg dksX0_strike_3 23 rfl rfl
theorem dksX0_strike_5 : cX0_strike.data.toList.drop 117 = dktX0_strike_5 := dk_seg dksX0_strike_4 24 rfl rfl
theorem dX0_strike_0 : decode cX0_strike 0 = .ok (.iload_n 1, 1) := dk_27 (dk_at dksX0_strike_0 0 rfl rfl)
theorem dX0_strike_1 : decode cX0_strike 1 = .ok (.invokestatic 109, 3) := dk_184 0 109 (dk_at dksX0_strike_0 1 rfl rfl)
theorem dX0_strike_4 : decode cX0_strike 4 = .ok (.ifCond .ne 5, 3) := dk_154 0 5 (dk_at dksX0_strike_0 4 rfl rfl)
theorem dX0_strike_7 : decode cX0_strike 7 = .ok (.iconst (-1), 1) := dk_2 (dk_at dksX0_strike_0 7 rfl rfl)
theorem dX0_strike_8 : decode cX0_strike 8 = .ok (.ireturn, 1) := dk_172 (dk_at dksX0_strike_0 8 rfl rfl)
theorem dX0_strike_9 : decode cX0_strike 9 = .ok (.aload_n 0, 1) := dk_42 (dk_at dksX0_strike_0 9 rfl rfl)
theorem dX0_strike_10 : decode cX0_strike 10 = .ok (.iload_n 1, 1) := dk_27 (dk_at dksX0_strike_0 10 rfl rfl)
theorem dX0_strike_11 : decode cX0_strike 11 = .ok (.invokevirtual 343, 3) := dk_182 1 87 (dk_at dksX0_strike_0 11 rfl rfl)
theorem dX0_strike_14 : decode cX0_strike 14 = .ok (.istore_n 2, 1) := dk_61 (dk_at dksX0_strike_0 14 rfl rfl)
theorem dX0_strike_15 : decode cX0_strike 15 = .ok (.iload_n 2, 1) := dk_28 (dk_at dksX0_strike_0 15 rfl rfl)
theorem dX0_strike_16 : decode cX0_strike 16 = .ok (.ifCond .ge 5, 3) := dk_156 0 5 (dk_at dksX0_strike_0 16 rfl rfl)
theorem dX0_strike_19 : decode cX0_strike 19 = .ok (.iload_n 2, 1) := dk_28 (dk_at dksX0_strike_0 19 rfl rfl)
theorem dX0_strike_20 : decode cX0_strike 20 = .ok (.ireturn, 1) := dk_172 (dk_at dksX0_strike_0 20 rfl rfl)
theorem dX0_strike_21 : decode cX0_strike 21 = .ok (.aload_n 0, 1) := dk_42 (dk_at dksX0_strike_0 21 rfl rfl)
theorem dX0_strike_22 : decode cX0_strike 22 = .ok (.aload_n 0, 1) := dk_42 (dk_at dksX0_strike_0 22 rfl rfl)
theorem dX0_strike_23 : decode cX0_strike 23 = .ok (.getfield 32, 3) := dk_180 0 32 (dk_at dksX0_strike_1 0 rfl rfl)
theorem dX0_strike_26 : decode cX0_strike 26 = .ok (.iload_n 1, 1) := dk_27 (dk_at dksX0_strike_1 3 rfl rfl)
theorem dX0_strike_27 : decode cX0_strike 27 = .ok (.aaload, 1) := dk_50 (dk_at dksX0_strike_1 4 rfl rfl)
theorem dX0_strike_28 : decode cX0_strike 28 = .ok (.invokevirtual 346, 3) := dk_182 1 90 (dk_at dksX0_strike_1 5 rfl rfl)
theorem dX0_strike_31 : decode cX0_strike 31 = .ok (.istore_n 3, 1) := dk_62 (dk_at dksX0_strike_1 8 rfl rfl)
theorem dX0_strike_32 : decode cX0_strike 32 = .ok (.bipush (-9), 2) := dk_16 247 (dk_at dksX0_strike_1 9 rfl rfl)
theorem dX0_strike_34 : decode cX0_strike 34 = .ok (.istore 4, 2) := dk_54 4 (dk_at dksX0_strike_1 11 rfl rfl)
theorem dX0_strike_36 : decode cX0_strike 36 = .ok (.ldc_w 261, 3) := dk_19 1 5 (dk_at dksX0_strike_1 13 rfl rfl)
theorem dX0_strike_39 : decode cX0_strike 39 = .ok (.istore 5, 2) := dk_54 5 (dk_at dksX0_strike_1 16 rfl rfl)
theorem dX0_strike_41 : decode cX0_strike 41 = .ok (.iconst 0, 1) := dk_3 (dk_at dksX0_strike_1 18 rfl rfl)
theorem dX0_strike_42 : decode cX0_strike 42 = .ok (.istore 6, 2) := dk_54 6 (dk_at dksX0_strike_1 19 rfl rfl)
theorem dX0_strike_44 : decode cX0_strike 44 = .ok (.iload 6, 2) := dk_21 6 (dk_at dksX0_strike_1 21 rfl rfl)
theorem dX0_strike_46 : decode cX0_strike 46 = .ok (.aload_n 0, 1) := dk_42 (dk_at dksX0_strike_1 23 rfl rfl)
theorem dX0_strike_47 : decode cX0_strike 47 = .ok (.getfield 191, 3) := dk_180 0 191 (dk_at dksX0_strike_2 0 rfl rfl)
theorem dX0_strike_50 : decode cX0_strike 50 = .ok (.if_icmp .ge 67, 3) := dk_162 0 67 (dk_at dksX0_strike_2 3 rfl rfl)
theorem dX0_strike_53 : decode cX0_strike 53 = .ok (.iload_n 3, 1) := dk_29 (dk_at dksX0_strike_2 6 rfl rfl)
theorem dX0_strike_54 : decode cX0_strike 54 = .ok (.ifCond .eq 63, 3) := dk_153 0 63 (dk_at dksX0_strike_2 7 rfl rfl)
theorem dX0_strike_57 : decode cX0_strike 57 = .ok (.iload_n 3, 1) := dk_29 (dk_at dksX0_strike_2 10 rfl rfl)
theorem dX0_strike_58 : decode cX0_strike 58 = .ok (.aload_n 0, 1) := dk_42 (dk_at dksX0_strike_2 11 rfl rfl)
theorem dX0_strike_59 : decode cX0_strike 59 = .ok (.iload 6, 2) := dk_21 6 (dk_at dksX0_strike_2 12 rfl rfl)
theorem dX0_strike_61 : decode cX0_strike 61 = .ok (.invokevirtual 340, 3) := dk_182 1 84 (dk_at dksX0_strike_2 14 rfl rfl)
theorem dX0_strike_64 : decode cX0_strike 64 = .ok (.iand, 1) := dk_126 (dk_at dksX0_strike_2 17 rfl rfl)
theorem dX0_strike_65 : decode cX0_strike 65 = .ok (.invokestatic 350, 3) := dk_184 1 94 (dk_at dksX0_strike_2 18 rfl rfl)
theorem dX0_strike_68 : decode cX0_strike 68 = .ok (.iload_n 3, 1) := dk_29 (dk_at dksX0_strike_2 21 rfl rfl)
theorem dX0_strike_69 : decode cX0_strike 69 = .ok (.aload_n 0, 1) := dk_42 (dk_at dksX0_strike_2 22 rfl rfl)
theorem dX0_strike_70 : decode cX0_strike 70 = .ok (.iload 6, 2) := dk_21 6 (dk_at dksX0_strike_3 0 rfl rfl)
theorem dX0_strike_72 : decode cX0_strike 72 = .ok (.invokevirtual 340, 3) := dk_182 1 84 (dk_at dksX0_strike_3 2 rfl rfl)
theorem dX0_strike_75 : decode cX0_strike 75 = .ok (.iconst (-1), 1) := dk_2 (dk_at dksX0_strike_3 5 rfl rfl)
theorem dX0_strike_76 : decode cX0_strike 76 = .ok (.ixor, 1) := dk_130 (dk_at dksX0_strike_3 6 rfl rfl)
theorem dX0_strike_77 : decode cX0_strike 77 = .ok (.iand, 1) := dk_126 (dk_at dksX0_strike_3 7 rfl rfl)
theorem dX0_strike_78 : decode cX0_strike 78 = .ok (.invokestatic 350, 3) := dk_184 1 94 (dk_at dksX0_strike_3 8 rfl rfl)
theorem dX0_strike_81 : decode cX0_strike 81 = .ok (.invokestatic 355, 3) := dk_184 1 99 (dk_at dksX0_strike_3 11 rfl rfl)
theorem dX0_strike_84 : decode cX0_strike 84 = .ok (.istore 7, 2) := dk_54 7 (dk_at dksX0_strike_3 14 rfl rfl)
theorem dX0_strike_86 : decode cX0_strike 86 = .ok (.iload 7, 2) := dk_21 7 (dk_at dksX0_strike_3 16 rfl rfl)
theorem dX0_strike_88 : decode cX0_strike 88 = .ok (.iload 5, 2) := dk_21 5 (dk_at dksX0_strike_3 18 rfl rfl)
theorem dX0_strike_90 : decode cX0_strike 90 = .ok (.if_icmp .ge 8, 3) := dk_162 0 8 (dk_at dksX0_strike_3 20 rfl rfl)
theorem dX0_strike_93 : decode cX0_strike 93 = .ok (.iload 6, 2) := dk_21 6 (dk_at dksX0_strike_4 0 rfl rfl)
theorem dX0_strike_95 : decode cX0_strike 95 = .ok (.goto 5, 3) := dk_167 0 5 (dk_at dksX0_strike_4 2 rfl rfl)
theorem dX0_strike_98 : decode cX0_strike 98 = .ok (.iload 4, 2) := dk_21 4 (dk_at dksX0_strike_4 5 rfl rfl)
theorem dX0_strike_100 : decode cX0_strike 100 = .ok (.istore 4, 2) := dk_54 4 (dk_at dksX0_strike_4 7 rfl rfl)
theorem dX0_strike_102 : decode cX0_strike 102 = .ok (.iload 5, 2) := dk_21 5 (dk_at dksX0_strike_4 9 rfl rfl)
theorem dX0_strike_104 : decode cX0_strike 104 = .ok (.iload 7, 2) := dk_21 7 (dk_at dksX0_strike_4 11 rfl rfl)
theorem dX0_strike_106 : decode cX0_strike 106 = .ok (.invokestatic 360, 3) := dk_184 1 104 (dk_at dksX0_strike_4 13 rfl rfl)
theorem dX0_strike_109 : decode cX0_strike 109 = .ok (.istore 5, 2) := dk_54 5 (dk_at dksX0_strike_4 16 rfl rfl)
theorem dX0_strike_111 : decode cX0_strike 111 = .ok (.iinc 6 1, 3) := dk_132 6 1 (dk_at dksX0_strike_4 18 rfl rfl)
theorem dX0_strike_114 : decode cX0_strike 114 = .ok (.goto (-70), 3) := dk_167 255 186 (dk_at dksX0_strike_4 21 rfl rfl)
theorem dX0_strike_117 : decode cX0_strike 117 = .ok (.iload 4, 2) := dk_21 4 (dk_at dksX0_strike_5 0 rfl rfl)
theorem dX0_strike_119 : decode cX0_strike 119 = .ok (.bipush (-9), 2) := dk_16 247 (dk_at dksX0_strike_5 2 rfl rfl)
theorem dX0_strike_121 : decode cX0_strike 121 = .ok (.if_icmp .ne 8, 3) := dk_160 0 8 (dk_at dksX0_strike_5 4 rfl rfl)
theorem dX0_strike_124 : decode cX0_strike 124 = .ok (.bipush (-9), 2) := dk_16 247 (dk_at dksX0_strike_5 7 rfl rfl)
theorem dX0_strike_126 : decode cX0_strike 126 = .ok (.goto 11, 3) := dk_167 0 11 (dk_at dksX0_strike_5 9 rfl rfl)
theorem dX0_strike_129 : decode cX0_strike 129 = .ok (.aload_n 0, 1) := dk_42 (dk_at dksX0_strike_5 12 rfl rfl)
theorem dX0_strike_130 : decode cX0_strike 130 = .ok (.iload 5, 2) := dk_21 5 (dk_at dksX0_strike_5 13 rfl rfl)
theorem dX0_strike_132 : decode cX0_strike 132 = .ok (.iload 4, 2) := dk_21 4 (dk_at dksX0_strike_5 15 rfl rfl)
theorem dX0_strike_134 : decode cX0_strike 134 = .ok (.invokevirtual 123, 3) := dk_182 0 123 (dk_at dksX0_strike_5 17 rfl rfl)
theorem dX0_strike_137 : decode cX0_strike 137 = .ok (.ireturn, 1) := dk_172 (dk_at dksX0_strike_5 20 rfl rfl)
abbrev cX0_tune : ByteArray := prog_1_method_73_code
def yX0_tune : MethodName := ⟨RX0, "tune", "(I)I"⟩
def dkwX0_tune_5 : List UInt8 := [132, 7, 1, 167, 255, 190, 42, 10, 33, 182, 1, 107, 172]
abbrev dktX0_tune_5 : List UInt8 := dkwX0_tune_5 ++ []
def dkwX0_tune_4 : List UInt8 := [180, 0, 76, 182, 0, 245, 184, 1, 94, 133, 105, 66, 42, 42, 180, 0, 76, 21, 8, 182, 0, 251]
abbrev dktX0_tune_4 : List UInt8 := dkwX0_tune_4 ++ dktX0_tune_5
def dkwX0_tune_3 : List UInt8 := [21, 8, 50, 42, 180, 0, 76, 182, 0, 212, 154, 0, 10, 42, 9, 10, 182, 1, 107, 172, 33, 42, 42]
abbrev dktX0_tune_3 : List UInt8 := dkwX0_tune_3 ++ dktX0_tune_4
def dkwX0_tune_2 : List UInt8 := [54, 6, 3, 54, 7, 21, 7, 21, 6, 162, 0, 65, 25, 5, 21, 7, 46, 54, 8, 42, 180, 0, 44]
abbrev dktX0_tune_2 : List UInt8 := dkwX0_tune_2 ++ dktX0_tune_3
def dkwX0_tune_1 : List UInt8 := [180, 0, 76, 42, 180, 0, 51, 182, 1, 21, 10, 66, 42, 180, 0, 32, 27, 50, 58, 5, 25, 5, 190]
abbrev dktX0_tune_1 : List UInt8 := dkwX0_tune_1 ++ dktX0_tune_2
def dkwX0_tune_0 : List UInt8 := [27, 184, 0, 109, 154, 0, 5, 2, 172, 42, 27, 182, 1, 28, 61, 28, 156, 0, 5, 28, 172, 42]
abbrev dktX0_tune_0 : List UInt8 := dkwX0_tune_0 ++ dktX0_tune_1
theorem dksX0_tune_0 : cX0_tune.data.toList.drop 0 = dktX0_tune_0 := by decide +kernel
theorem dksX0_tune_1 : cX0_tune.data.toList.drop 22 = dktX0_tune_1 := dk_seg dksX0_tune_0 22 rfl rfl
theorem dksX0_tune_2 : cX0_tune.data.toList.drop 45 = dktX0_tune_2 := dk_seg dksX0_tune_1 23 rfl rfl
theorem dksX0_tune_3 : cX0_tune.data.toList.drop 68 = dktX0_tune_3 := dk_seg dksX0_tune_2 23 rfl rfl
theorem dksX0_tune_4 : cX0_tune.data.toList.drop 91 = dktX0_tune_4 := dk_seg dksX0_tune_3 23 rfl rfl
theorem dksX0_tune_5 : cX0_tune.data.toList.drop 113 = dktX0_tune_5 := dk_seg dksX0_tune_4 22 rfl rfl
theorem dX0_tune_0 : decode cX0_tune 0 = .ok (.iload_n 1, 1) := dk_27 (dk_at dksX0_tune_0 0 rfl rfl)
theorem dX0_tune_1 : decode cX0_tune 1 = .ok (.invokestatic 109, 3) := dk_184 0 109 (dk_at dksX0_tune_0 1 rfl rfl)
theorem dX0_tune_4 : decode cX0_tune 4 = .ok (.ifCond .ne 5, 3) := dk_154 0 5 (dk_at dksX0_tune_0 4 rfl rfl)
theorem dX0_tune_7 : decode cX0_tune 7 = .ok (.iconst (-1), 1) := dk_2 (dk_at dksX0_tune_0 7 rfl rfl)
theorem dX0_tune_8 : decode cX0_tune 8 = .ok (.ireturn, 1) := dk_172 (dk_at dksX0_tune_0 8 rfl rfl)
theorem dX0_tune_9 : decode cX0_tune 9 = .ok (.aload_n 0, 1) := dk_42 (dk_at dksX0_tune_0 9 rfl rfl)
theorem dX0_tune_10 : decode cX0_tune 10 = .ok (.iload_n 1, 1) := dk_27 (dk_at dksX0_tune_0 10 rfl rfl)
theorem dX0_tune_11 : decode cX0_tune 11 = .ok (.invokevirtual 284, 3) := dk_182 1 28 (dk_at dksX0_tune_0 11 rfl rfl)
theorem dX0_tune_14 : decode cX0_tune 14 = .ok (.istore_n 2, 1) := dk_61 (dk_at dksX0_tune_0 14 rfl rfl)
theorem dX0_tune_15 : decode cX0_tune 15 = .ok (.iload_n 2, 1) := dk_28 (dk_at dksX0_tune_0 15 rfl rfl)
theorem dX0_tune_16 : decode cX0_tune 16 = .ok (.ifCond .ge 5, 3) := dk_156 0 5 (dk_at dksX0_tune_0 16 rfl rfl)
theorem dX0_tune_19 : decode cX0_tune 19 = .ok (.iload_n 2, 1) := dk_28 (dk_at dksX0_tune_0 19 rfl rfl)
theorem dX0_tune_20 : decode cX0_tune 20 = .ok (.ireturn, 1) := dk_172 (dk_at dksX0_tune_0 20 rfl rfl)
theorem dX0_tune_21 : decode cX0_tune 21 = .ok (.aload_n 0, 1) := dk_42 (dk_at dksX0_tune_0 21 rfl rfl)
theorem dX0_tune_22 : decode cX0_tune 22 = .ok (.getfield 76, 3) := dk_180 0 76 (dk_at dksX0_tune_1 0 rfl rfl)
theorem dX0_tune_25 : decode cX0_tune 25 = .ok (.aload_n 0, 1) := dk_42 (dk_at dksX0_tune_1 3 rfl rfl)
theorem dX0_tune_26 : decode cX0_tune 26 = .ok (.getfield 51, 3) := dk_180 0 51 (dk_at dksX0_tune_1 4 rfl rfl)
theorem dX0_tune_29 : decode cX0_tune 29 = .ok (.invokevirtual 277, 3) := dk_182 1 21 (dk_at dksX0_tune_1 7 rfl rfl)
theorem dX0_tune_32 : decode cX0_tune 32 = .ok (.lconst 1, 1) := dk_10 (dk_at dksX0_tune_1 10 rfl rfl)
theorem dX0_tune_33 : decode cX0_tune 33 = .ok (.lstore_n 3, 1) := dk_66 (dk_at dksX0_tune_1 11 rfl rfl)
theorem dX0_tune_34 : decode cX0_tune 34 = .ok (.aload_n 0, 1) := dk_42 (dk_at dksX0_tune_1 12 rfl rfl)
theorem dX0_tune_35 : decode cX0_tune 35 = .ok (.getfield 32, 3) := dk_180 0 32 (dk_at dksX0_tune_1 13 rfl rfl)
theorem dX0_tune_38 : decode cX0_tune 38 = .ok (.iload_n 1, 1) := dk_27 (dk_at dksX0_tune_1 16 rfl rfl)
theorem dX0_tune_39 : decode cX0_tune 39 = .ok (.aaload, 1) := dk_50 (dk_at dksX0_tune_1 17 rfl rfl)
theorem dX0_tune_40 : decode cX0_tune 40 = .ok (.astore 5, 2) := dk_58 5 (dk_at dksX0_tune_1 18 rfl rfl)
theorem dX0_tune_42 : decode cX0_tune 42 = .ok (.aload 5, 2) := dk_25 5 (dk_at dksX0_tune_1 20 rfl rfl)
theorem dX0_tune_44 : decode cX0_tune 44 = .ok (.arraylength, 1) := dk_190 (dk_at dksX0_tune_1 22 rfl rfl)
theorem dX0_tune_45 : decode cX0_tune 45 = .ok (.istore 6, 2) := dk_54 6 (dk_at dksX0_tune_2 0 rfl rfl)
theorem dX0_tune_47 : decode cX0_tune 47 = .ok (.iconst 0, 1) := dk_3 (dk_at dksX0_tune_2 2 rfl rfl)
theorem dX0_tune_48 : decode cX0_tune 48 = .ok (.istore 7, 2) := dk_54 7 (dk_at dksX0_tune_2 3 rfl rfl)
theorem dX0_tune_50 : decode cX0_tune 50 = .ok (.iload 7, 2) := dk_21 7 (dk_at dksX0_tune_2 5 rfl rfl)
theorem dX0_tune_52 : decode cX0_tune 52 = .ok (.iload 6, 2) := dk_21 6 (dk_at dksX0_tune_2 7 rfl rfl)
theorem dX0_tune_54 : decode cX0_tune 54 = .ok (.if_icmp .ge 65, 3) := dk_162 0 65 (dk_at dksX0_tune_2 9 rfl rfl)
theorem dX0_tune_57 : decode cX0_tune 57 = .ok (.aload 5, 2) := dk_25 5 (dk_at dksX0_tune_2 12 rfl rfl)
theorem dX0_tune_59 : decode cX0_tune 59 = .ok (.iload 7, 2) := dk_21 7 (dk_at dksX0_tune_2 14 rfl rfl)
theorem dX0_tune_61 : decode cX0_tune 61 = .ok (.iaload, 1) := dk_46 (dk_at dksX0_tune_2 16 rfl rfl)
theorem dX0_tune_62 : decode cX0_tune 62 = .ok (.istore 8, 2) := dk_54 8 (dk_at dksX0_tune_2 17 rfl rfl)
theorem dX0_tune_64 : decode cX0_tune 64 = .ok (.aload_n 0, 1) := dk_42 (dk_at dksX0_tune_2 19 rfl rfl)
theorem dX0_tune_65 : decode cX0_tune 65 = .ok (.getfield 44, 3) := dk_180 0 44 (dk_at dksX0_tune_2 20 rfl rfl)
theorem dX0_tune_68 : decode cX0_tune 68 = .ok (.iload 8, 2) := dk_21 8 (dk_at dksX0_tune_3 0 rfl rfl)
theorem dX0_tune_70 : decode cX0_tune 70 = .ok (.aaload, 1) := dk_50 (dk_at dksX0_tune_3 2 rfl rfl)
theorem dX0_tune_71 : decode cX0_tune 71 = .ok (.aload_n 0, 1) := dk_42 (dk_at dksX0_tune_3 3 rfl rfl)
theorem dX0_tune_72 : decode cX0_tune 72 = .ok (.getfield 76, 3) := dk_180 0 76 (dk_at dksX0_tune_3 4 rfl rfl)
theorem dX0_tune_75 : decode cX0_tune 75 = .ok (.invokevirtual 212, 3) := dk_182 0 212 (dk_at dksX0_tune_3 7 rfl rfl)
theorem dX0_tune_78 : decode cX0_tune 78 = .ok (.ifCond .ne 10, 3) := dk_154 0 10 (dk_at dksX0_tune_3 10 rfl rfl)
theorem dX0_tune_81 : decode cX0_tune 81 = .ok (.aload_n 0, 1) := dk_42 (dk_at dksX0_tune_3 13 rfl rfl)
theorem dX0_tune_82 : decode cX0_tune 82 = .ok (.lconst 0, 1) := dk_9 (dk_at dksX0_tune_3 14 rfl rfl)
theorem dX0_tune_83 : decode cX0_tune 83 = .ok (.lconst 1, 1) := dk_10 (dk_at dksX0_tune_3 15 rfl rfl)
theorem dX0_tune_84 : decode cX0_tune 84 = .ok (.invokevirtual 363, 3) := dk_182 1 107 (dk_at dksX0_tune_3 16 rfl rfl)
theorem dX0_tune_87 : decode cX0_tune 87 = .ok (.ireturn, 1) := dk_172 (dk_at dksX0_tune_3 19 rfl rfl)
theorem dX0_tune_88 : decode cX0_tune 88 = .ok (.lload_n 3, 1) := dk_33 (dk_at dksX0_tune_3 20 rfl rfl)
theorem dX0_tune_89 : decode cX0_tune 89 = .ok (.aload_n 0, 1) := dk_42 (dk_at dksX0_tune_3 21 rfl rfl)
theorem dX0_tune_90 : decode cX0_tune 90 = .ok (.aload_n 0, 1) := dk_42 (dk_at dksX0_tune_3 22 rfl rfl)
theorem dX0_tune_91 : decode cX0_tune 91 = .ok (.getfield 76, 3) := dk_180 0 76 (dk_at dksX0_tune_4 0 rfl rfl)
theorem dX0_tune_94 : decode cX0_tune 94 = .ok (.invokevirtual 245, 3) := dk_182 0 245 (dk_at dksX0_tune_4 3 rfl rfl)
theorem dX0_tune_97 : decode cX0_tune 97 = .ok (.invokestatic 350, 3) := dk_184 1 94 (dk_at dksX0_tune_4 6 rfl rfl)
theorem dX0_tune_100 : decode cX0_tune 100 = .ok (.i2l, 1) := dk_133 (dk_at dksX0_tune_4 9 rfl rfl)
theorem dX0_tune_101 : decode cX0_tune 101 = .ok (.lmul, 1) := dk_105 (dk_at dksX0_tune_4 10 rfl rfl)
theorem dX0_tune_102 : decode cX0_tune 102 = .ok (.lstore_n 3, 1) := dk_66 (dk_at dksX0_tune_4 11 rfl rfl)
theorem dX0_tune_103 : decode cX0_tune 103 = .ok (.aload_n 0, 1) := dk_42 (dk_at dksX0_tune_4 12 rfl rfl)
theorem dX0_tune_104 : decode cX0_tune 104 = .ok (.aload_n 0, 1) := dk_42 (dk_at dksX0_tune_4 13 rfl rfl)
theorem dX0_tune_105 : decode cX0_tune 105 = .ok (.getfield 76, 3) := dk_180 0 76 (dk_at dksX0_tune_4 14 rfl rfl)
theorem dX0_tune_108 : decode cX0_tune 108 = .ok (.iload 8, 2) := dk_21 8 (dk_at dksX0_tune_4 17 rfl rfl)
theorem dX0_tune_110 : decode cX0_tune 110 = .ok (.invokevirtual 251, 3) := dk_182 0 251 (dk_at dksX0_tune_4 19 rfl rfl)
theorem dX0_tune_113 : decode cX0_tune 113 = .ok (.iinc 7 1, 3) := dk_132 7 1 (dk_at dksX0_tune_5 0 rfl rfl)
theorem dX0_tune_116 : decode cX0_tune 116 = .ok (.goto (-66), 3) := dk_167 255 190 (dk_at dksX0_tune_5 3 rfl rfl)
theorem dX0_tune_119 : decode cX0_tune 119 = .ok (.aload_n 0, 1) := dk_42 (dk_at dksX0_tune_5 6 rfl rfl)
theorem dX0_tune_120 : decode cX0_tune 120 = .ok (.lconst 1, 1) := dk_10 (dk_at dksX0_tune_5 7 rfl rfl)
theorem dX0_tune_121 : decode cX0_tune 121 = .ok (.lload_n 3, 1) := dk_33 (dk_at dksX0_tune_5 8 rfl rfl)
theorem dX0_tune_122 : decode cX0_tune 122 = .ok (.invokevirtual 363, 3) := dk_182 1 107 (dk_at dksX0_tune_5 9 rfl rfl)
theorem dX0_tune_125 : decode cX0_tune 125 = .ok (.ireturn, 1) := dk_172 (dk_at dksX0_tune_5 12 rfl rfl)
abbrev cX0_chances : ByteArray := prog_1_method_6_code
def yX0_chances : MethodName := ⟨RX0, "chances", "(JJ)I"⟩
def dkwX0_chances_1 : List UInt8 := [172]
abbrev dktX0_chances_1 : List UInt8 := dkwX0_chances_1 ++ []
def dkwX0_chances_0 : List UInt8 := [31, 33, 184, 0, 14, 55, 5, 42, 31, 22, 5, 109, 181, 0, 18, 42, 33, 22, 5, 109, 181, 0, 22, 4]
abbrev dktX0_chances_0 : List UInt8 := dkwX0_chances_0 ++ dktX0_chances_1
theorem dksX0_chances_0 : cX0_chances.data.toList.drop 0 = dktX0_chances_0 := by decide +kernel
theorem dksX0_chances_1 : cX0_chances.data.toList.drop 24 = dktX0_chances_1 := dk_seg dksX0_chances_0 24 rfl rfl
theorem dX0_chances_0 : decode cX0_chances 0 = .ok (.lload_n 1, 1) := dk_31 (dk_at dksX0_chances_0 0 rfl rfl)
theorem dX0_chances_1 : decode cX0_chances 1 = .ok (.lload_n 3, 1) := dk_33 (dk_at dksX0_chances_0 1 rfl rfl)
theorem dX0_chances_2 : decode cX0_chances 2 = .ok (.invokestatic 14, 3) := dk_184 0 14 (dk_at dksX0_chances_0 2 rfl rfl)
theorem dX0_chances_5 : decode cX0_chances 5 = .ok (.lstore 5, 2) := dk_55 5 (dk_at dksX0_chances_0 5 rfl rfl)
theorem dX0_chances_7 : decode cX0_chances 7 = .ok (.aload_n 0, 1) := dk_42 (dk_at dksX0_chances_0 7 rfl rfl)
theorem dX0_chances_8 : decode cX0_chances 8 = .ok (.lload_n 1, 1) := dk_31 (dk_at dksX0_chances_0 8 rfl rfl)
theorem dX0_chances_9 : decode cX0_chances 9 = .ok (.lload 5, 2) := dk_22 5 (dk_at dksX0_chances_0 9 rfl rfl)
theorem dX0_chances_11 : decode cX0_chances 11 = .ok (.ldiv, 1) := dk_109 (dk_at dksX0_chances_0 11 rfl rfl)
theorem dX0_chances_12 : decode cX0_chances 12 = .ok (.putfield 18, 3) := dk_181 0 18 (dk_at dksX0_chances_0 12 rfl rfl)
theorem dX0_chances_15 : decode cX0_chances 15 = .ok (.aload_n 0, 1) := dk_42 (dk_at dksX0_chances_0 15 rfl rfl)
theorem dX0_chances_16 : decode cX0_chances 16 = .ok (.lload_n 3, 1) := dk_33 (dk_at dksX0_chances_0 16 rfl rfl)
theorem dX0_chances_17 : decode cX0_chances 17 = .ok (.lload 5, 2) := dk_22 5 (dk_at dksX0_chances_0 17 rfl rfl)
theorem dX0_chances_19 : decode cX0_chances 19 = .ok (.ldiv, 1) := dk_109 (dk_at dksX0_chances_0 19 rfl rfl)
theorem dX0_chances_20 : decode cX0_chances 20 = .ok (.putfield 22, 3) := dk_181 0 22 (dk_at dksX0_chances_0 20 rfl rfl)
theorem dX0_chances_23 : decode cX0_chances 23 = .ok (.iconst 1, 1) := dk_4 (dk_at dksX0_chances_0 23 rfl rfl)
theorem dX0_chances_24 : decode cX0_chances 24 = .ok (.ireturn, 1) := dk_172 (dk_at dksX0_chances_1 0 rfl rfl)
abbrev cX0_divisor : ByteArray := prog_1_method_5_code
def yX0_divisor : MethodName := ⟨RX0, "divisor", "(JJ)J"⟩
def dkwX0_divisor_1 : List UInt8 := [22, 8, 55, 6, 167, 255, 234, 22, 4, 173]
abbrev dktX0_divisor_1 : List UInt8 := dkwX0_divisor_1 ++ []
def dkwX0_divisor_0 : List UInt8 := [30, 55, 4, 32, 55, 6, 22, 6, 9, 148, 153, 0, 21, 22, 4, 22, 6, 113, 55, 8, 22, 6, 55, 4]
abbrev dktX0_divisor_0 : List UInt8 := dkwX0_divisor_0 ++ dktX0_divisor_1
theorem dksX0_divisor_0 : cX0_divisor.data.toList.drop 0 = dktX0_divisor_0 := by decide +kernel
theorem dksX0_divisor_1 : cX0_divisor.data.toList.drop 24 = dktX0_divisor_1 := dk_seg dksX0_divisor_0 24 rfl rfl
theorem dX0_divisor_0 : decode cX0_divisor 0 = .ok (.lload_n 0, 1) := dk_30 (dk_at dksX0_divisor_0 0 rfl rfl)
theorem dX0_divisor_1 : decode cX0_divisor 1 = .ok (.lstore 4, 2) := dk_55 4 (dk_at dksX0_divisor_0 1 rfl rfl)
theorem dX0_divisor_3 : decode cX0_divisor 3 = .ok (.lload_n 2, 1) := dk_32 (dk_at dksX0_divisor_0 3 rfl rfl)
theorem dX0_divisor_4 : decode cX0_divisor 4 = .ok (.lstore 6, 2) := dk_55 6 (dk_at dksX0_divisor_0 4 rfl rfl)
theorem dX0_divisor_6 : decode cX0_divisor 6 = .ok (.lload 6, 2) := dk_22 6 (dk_at dksX0_divisor_0 6 rfl rfl)
theorem dX0_divisor_8 : decode cX0_divisor 8 = .ok (.lconst 0, 1) := dk_9 (dk_at dksX0_divisor_0 8 rfl rfl)
theorem dX0_divisor_9 : decode cX0_divisor 9 = .ok (.lcmp, 1) := dk_148 (dk_at dksX0_divisor_0 9 rfl rfl)
theorem dX0_divisor_10 : decode cX0_divisor 10 = .ok (.ifCond .eq 21, 3) := dk_153 0 21 (dk_at dksX0_divisor_0 10 rfl rfl)
theorem dX0_divisor_13 : decode cX0_divisor 13 = .ok (.lload 4, 2) := dk_22 4 (dk_at dksX0_divisor_0 13 rfl rfl)
theorem dX0_divisor_15 : decode cX0_divisor 15 = .ok (.lload 6, 2) := dk_22 6 (dk_at dksX0_divisor_0 15 rfl rfl)
theorem dX0_divisor_17 : decode cX0_divisor 17 = .ok (.lrem, 1) := dk_113 (dk_at dksX0_divisor_0 17 rfl rfl)
theorem dX0_divisor_18 : decode cX0_divisor 18 = .ok (.lstore 8, 2) := dk_55 8 (dk_at dksX0_divisor_0 18 rfl rfl)
theorem dX0_divisor_20 : decode cX0_divisor 20 = .ok (.lload 6, 2) := dk_22 6 (dk_at dksX0_divisor_0 20 rfl rfl)
theorem dX0_divisor_22 : decode cX0_divisor 22 = .ok (.lstore 4, 2) := dk_55 4 (dk_at dksX0_divisor_0 22 rfl rfl)
theorem dX0_divisor_24 : decode cX0_divisor 24 = .ok (.lload 8, 2) := dk_22 8 (dk_at dksX0_divisor_1 0 rfl rfl)
theorem dX0_divisor_26 : decode cX0_divisor 26 = .ok (.lstore 6, 2) := dk_55 6 (dk_at dksX0_divisor_1 2 rfl rfl)
theorem dX0_divisor_28 : decode cX0_divisor 28 = .ok (.goto (-22), 3) := dk_167 255 234 (dk_at dksX0_divisor_1 4 rfl rfl)
theorem dX0_divisor_31 : decode cX0_divisor 31 = .ok (.lload 4, 2) := dk_22 4 (dk_at dksX0_divisor_1 7 rfl rfl)
theorem dX0_divisor_33 : decode cX0_divisor 33 = .ok (.lreturn, 1) := dk_173 (dk_at dksX0_divisor_1 9 rfl rfl)
abbrev cX0_bet : ByteArray := prog_1_method_75_code
def yX0_bet : MethodName := ⟨RX0, "bet", "(II)I"⟩
def dkwX0_bet_3 : List UInt8 := [180, 1, 113, 33, 182, 1, 107, 172]
abbrev dktX0_bet_3 : List UInt8 := dkwX0_bet_3 ++ []
def dkwX0_bet_2 : List UInt8 := [54, 5, 21, 5, 28, 162, 0, 15, 33, 20, 1, 111, 105, 66, 132, 5, 1, 167, 255, 241, 42, 42]
abbrev dktX0_bet_2 : List UInt8 := dkwX0_bet_2 ++ dktX0_bet_3
def dkwX0_bet_1 : List UInt8 := [50, 42, 180, 0, 51, 182, 1, 21, 42, 9, 181, 1, 113, 42, 3, 28, 27, 10, 182, 1, 116, 10, 66, 3]
abbrev dktX0_bet_1 : List UInt8 := dkwX0_bet_1 ++ dktX0_bet_2
def dkwX0_bet_0 : List UInt8 := [42, 27, 182, 0, 216, 153, 0, 12, 28, 3, 8, 184, 0, 105, 154, 0, 5, 2, 172, 42, 180, 0, 89, 3]
abbrev dktX0_bet_0 : List UInt8 := dkwX0_bet_0 ++ dktX0_bet_1
theorem dksX0_bet_0 : cX0_bet.data.toList.drop 0 = dktX0_bet_0 := by decide +kernel
theorem dksX0_bet_1 : cX0_bet.data.toList.drop 24 = dktX0_bet_1 := dk_seg dksX0_bet_0 24 rfl rfl
theorem dksX0_bet_2 : cX0_bet.data.toList.drop 48 = dktX0_bet_2 := dk_seg dksX0_bet_1 24 rfl rfl
theorem dksX0_bet_3 : cX0_bet.data.toList.drop 70 = dktX0_bet_3 := dk_seg dksX0_bet_2 22 rfl rfl
theorem dX0_bet_0 : decode cX0_bet 0 = .ok (.aload_n 0, 1) := dk_42 (dk_at dksX0_bet_0 0 rfl rfl)
theorem dX0_bet_1 : decode cX0_bet 1 = .ok (.iload_n 1, 1) := dk_27 (dk_at dksX0_bet_0 1 rfl rfl)
theorem dX0_bet_2 : decode cX0_bet 2 = .ok (.invokevirtual 216, 3) := dk_182 0 216 (dk_at dksX0_bet_0 2 rfl rfl)
theorem dX0_bet_5 : decode cX0_bet 5 = .ok (.ifCond .eq 12, 3) := dk_153 0 12 (dk_at dksX0_bet_0 5 rfl rfl)
theorem dX0_bet_8 : decode cX0_bet 8 = .ok (.iload_n 2, 1) := dk_28 (dk_at dksX0_bet_0 8 rfl rfl)
theorem dX0_bet_9 : decode cX0_bet 9 = .ok (.iconst 0, 1) := dk_3 (dk_at dksX0_bet_0 9 rfl rfl)
theorem dX0_bet_10 : decode cX0_bet 10 = .ok (.iconst 5, 1) := dk_8 (dk_at dksX0_bet_0 10 rfl rfl)
theorem dX0_bet_11 : decode cX0_bet 11 = .ok (.invokestatic 105, 3) := dk_184 0 105 (dk_at dksX0_bet_0 11 rfl rfl)
theorem dX0_bet_14 : decode cX0_bet 14 = .ok (.ifCond .ne 5, 3) := dk_154 0 5 (dk_at dksX0_bet_0 14 rfl rfl)
theorem dX0_bet_17 : decode cX0_bet 17 = .ok (.iconst (-1), 1) := dk_2 (dk_at dksX0_bet_0 17 rfl rfl)
theorem dX0_bet_18 : decode cX0_bet 18 = .ok (.ireturn, 1) := dk_172 (dk_at dksX0_bet_0 18 rfl rfl)
theorem dX0_bet_19 : decode cX0_bet 19 = .ok (.aload_n 0, 1) := dk_42 (dk_at dksX0_bet_0 19 rfl rfl)
theorem dX0_bet_20 : decode cX0_bet 20 = .ok (.getfield 89, 3) := dk_180 0 89 (dk_at dksX0_bet_0 20 rfl rfl)
theorem dX0_bet_23 : decode cX0_bet 23 = .ok (.iconst 0, 1) := dk_3 (dk_at dksX0_bet_0 23 rfl rfl)
theorem dX0_bet_24 : decode cX0_bet 24 = .ok (.aaload, 1) := dk_50 (dk_at dksX0_bet_1 0 rfl rfl)
theorem dX0_bet_25 : decode cX0_bet 25 = .ok (.aload_n 0, 1) := dk_42 (dk_at dksX0_bet_1 1 rfl rfl)
theorem dX0_bet_26 : decode cX0_bet 26 = .ok (.getfield 51, 3) := dk_180 0 51 (dk_at dksX0_bet_1 2 rfl rfl)
theorem dX0_bet_29 : decode cX0_bet 29 = .ok (.invokevirtual 277, 3) := dk_182 1 21 (dk_at dksX0_bet_1 5 rfl rfl)
theorem dX0_bet_32 : decode cX0_bet 32 = .ok (.aload_n 0, 1) := dk_42 (dk_at dksX0_bet_1 8 rfl rfl)
theorem dX0_bet_33 : decode cX0_bet 33 = .ok (.lconst 0, 1) := dk_9 (dk_at dksX0_bet_1 9 rfl rfl)
theorem dX0_bet_34 : decode cX0_bet 34 = .ok (.putfield 369, 3) := dk_181 1 113 (dk_at dksX0_bet_1 10 rfl rfl)
theorem dX0_bet_37 : decode cX0_bet 37 = .ok (.aload_n 0, 1) := dk_42 (dk_at dksX0_bet_1 13 rfl rfl)
theorem dX0_bet_38 : decode cX0_bet 38 = .ok (.iconst 0, 1) := dk_3 (dk_at dksX0_bet_1 14 rfl rfl)
theorem dX0_bet_39 : decode cX0_bet 39 = .ok (.iload_n 2, 1) := dk_28 (dk_at dksX0_bet_1 15 rfl rfl)
theorem dX0_bet_40 : decode cX0_bet 40 = .ok (.iload_n 1, 1) := dk_27 (dk_at dksX0_bet_1 16 rfl rfl)
theorem dX0_bet_41 : decode cX0_bet 41 = .ok (.lconst 1, 1) := dk_10 (dk_at dksX0_bet_1 17 rfl rfl)
theorem dX0_bet_42 : decode cX0_bet 42 = .ok (.invokevirtual 372, 3) := dk_182 1 116 (dk_at dksX0_bet_1 18 rfl rfl)
theorem dX0_bet_45 : decode cX0_bet 45 = .ok (.lconst 1, 1) := dk_10 (dk_at dksX0_bet_1 21 rfl rfl)
theorem dX0_bet_46 : decode cX0_bet 46 = .ok (.lstore_n 3, 1) := dk_66 (dk_at dksX0_bet_1 22 rfl rfl)
theorem dX0_bet_47 : decode cX0_bet 47 = .ok (.iconst 0, 1) := dk_3 (dk_at dksX0_bet_1 23 rfl rfl)
theorem dX0_bet_48 : decode cX0_bet 48 = .ok (.istore 5, 2) := dk_54 5 (dk_at dksX0_bet_2 0 rfl rfl)
theorem dX0_bet_50 : decode cX0_bet 50 = .ok (.iload 5, 2) := dk_21 5 (dk_at dksX0_bet_2 2 rfl rfl)
theorem dX0_bet_52 : decode cX0_bet 52 = .ok (.iload_n 2, 1) := dk_28 (dk_at dksX0_bet_2 4 rfl rfl)
theorem dX0_bet_53 : decode cX0_bet 53 = .ok (.if_icmp .ge 15, 3) := dk_162 0 15 (dk_at dksX0_bet_2 5 rfl rfl)
theorem dX0_bet_56 : decode cX0_bet 56 = .ok (.lload_n 3, 1) := dk_33 (dk_at dksX0_bet_2 8 rfl rfl)
theorem dX0_bet_57 : decode cX0_bet 57 = .ok (.ldc2_w 367, 3) := dk_20 1 111 (dk_at dksX0_bet_2 9 rfl rfl)
theorem dX0_bet_60 : decode cX0_bet 60 = .ok (.lmul, 1) := dk_105 (dk_at dksX0_bet_2 12 rfl rfl)
theorem dX0_bet_61 : decode cX0_bet 61 = .ok (.lstore_n 3, 1) := dk_66 (dk_at dksX0_bet_2 13 rfl rfl)
theorem dX0_bet_62 : decode cX0_bet 62 = .ok (.iinc 5 1, 3) := dk_132 5 1 (dk_at dksX0_bet_2 14 rfl rfl)
theorem dX0_bet_65 : decode cX0_bet 65 = .ok (.goto (-15), 3) := dk_167 255 241 (dk_at dksX0_bet_2 17 rfl rfl)
theorem dX0_bet_68 : decode cX0_bet 68 = .ok (.aload_n 0, 1) := dk_42 (dk_at dksX0_bet_2 20 rfl rfl)
theorem dX0_bet_69 : decode cX0_bet 69 = .ok (.aload_n 0, 1) := dk_42 (dk_at dksX0_bet_2 21 rfl rfl)
theorem dX0_bet_70 : decode cX0_bet 70 = .ok (.getfield 369, 3) := dk_180 1 113 (dk_at dksX0_bet_3 0 rfl rfl)
theorem dX0_bet_73 : decode cX0_bet 73 = .ok (.lload_n 3, 1) := dk_33 (dk_at dksX0_bet_3 3 rfl rfl)
theorem dX0_bet_74 : decode cX0_bet 74 = .ok (.invokevirtual 363, 3) := dk_182 1 107 (dk_at dksX0_bet_3 4 rfl rfl)
theorem dX0_bet_77 : decode cX0_bet 77 = .ok (.ireturn, 1) := dk_172 (dk_at dksX0_bet_3 7 rfl rfl)
abbrev cX0_betOn : ByteArray := prog_1_method_74_code
def yX0_betOn : MethodName := ⟨RX0, "betOn", "(IIIJ)V"⟩
def dkwX0_betOn_5 : List UInt8 := [184, 1, 94, 108, 133, 105, 182, 1, 116, 132, 7, 1, 167, 255, 206, 177]
abbrev dktX0_betOn_5 : List UInt8 := dkwX0_betOn_5 ++ []
def dkwX0_betOn_4 : List UInt8 := [153, 0, 31, 42, 27, 21, 7, 182, 1, 50, 42, 27, 4, 96, 28, 29, 22, 4, 16, 60, 21, 6]
abbrev dktX0_betOn_4 : List UInt8 := dkwX0_betOn_4 ++ dktX0_betOn_5
def dkwX0_betOn_3 : List UInt8 := [181, 1, 113, 177, 3, 54, 7, 21, 7, 42, 180, 0, 191, 162, 0, 47, 21, 6, 21, 7, 184, 1, 46]
abbrev dktX0_betOn_3 : List UInt8 := dkwX0_betOn_3 ++ dktX0_betOn_4
def dkwX0_betOn_2 : List UInt8 := [167, 255, 239, 42, 89, 180, 1, 113, 21, 6, 29, 184, 1, 46, 153, 0, 8, 22, 7, 167, 0, 4, 9, 97]
abbrev dktX0_betOn_2 : List UInt8 := dkwX0_betOn_2 ++ dktX0_betOn_3
def dkwX0_betOn_1 : List UInt8 := [55, 7, 27, 54, 9, 21, 9, 28, 162, 0, 17, 22, 7, 20, 1, 111, 105, 55, 7, 132, 9, 1]
abbrev dktX0_betOn_1 : List UInt8 := dkwX0_betOn_1 ++ dktX0_betOn_2
def dkwX0_betOn_0 : List UInt8 := [42, 42, 180, 0, 89, 27, 50, 182, 0, 245, 54, 6, 27, 28, 159, 0, 8, 21, 6, 154, 0, 55, 22, 4]
abbrev dktX0_betOn_0 : List UInt8 := dkwX0_betOn_0 ++ dktX0_betOn_1
theorem dksX0_betOn_0 : cX0_betOn.data.toList.drop 0 = dktX0_betOn_0 := by decide +kernel
theorem dksX0_betOn_1 : cX0_betOn.data.toList.drop 24 = dktX0_betOn_1 := dk_seg dksX0_betOn_0 24 rfl rfl
theorem dksX0_betOn_2 : cX0_betOn.data.toList.drop 46 = dktX0_betOn_2 := dk_seg dksX0_betOn_1 22 rfl rfl
theorem dksX0_betOn_3 : cX0_betOn.data.toList.drop 70 = dktX0_betOn_3 := dk_seg dksX0_betOn_2 24 rfl rfl
theorem dksX0_betOn_4 : cX0_betOn.data.toList.drop 93 = dktX0_betOn_4 := dk_seg dksX0_betOn_3 23 rfl rfl
theorem dksX0_betOn_5 : cX0_betOn.data.toList.drop 115 = dktX0_betOn_5 := dk_seg dksX0_betOn_4 22 rfl rfl
theorem dX0_betOn_0 : decode cX0_betOn 0 = .ok (.aload_n 0, 1) := dk_42 (dk_at dksX0_betOn_0 0 rfl rfl)
theorem dX0_betOn_1 : decode cX0_betOn 1 = .ok (.aload_n 0, 1) := dk_42 (dk_at dksX0_betOn_0 1 rfl rfl)
theorem dX0_betOn_2 : decode cX0_betOn 2 = .ok (.getfield 89, 3) := dk_180 0 89 (dk_at dksX0_betOn_0 2 rfl rfl)
theorem dX0_betOn_5 : decode cX0_betOn 5 = .ok (.iload_n 1, 1) := dk_27 (dk_at dksX0_betOn_0 5 rfl rfl)
theorem dX0_betOn_6 : decode cX0_betOn 6 = .ok (.aaload, 1) := dk_50 (dk_at dksX0_betOn_0 6 rfl rfl)
theorem dX0_betOn_7 : decode cX0_betOn 7 = .ok (.invokevirtual 245, 3) := dk_182 0 245 (dk_at dksX0_betOn_0 7 rfl rfl)
theorem dX0_betOn_10 : decode cX0_betOn 10 = .ok (.istore 6, 2) := dk_54 6 (dk_at dksX0_betOn_0 10 rfl rfl)
theorem dX0_betOn_12 : decode cX0_betOn 12 = .ok (.iload_n 1, 1) := dk_27 (dk_at dksX0_betOn_0 12 rfl rfl)
theorem dX0_betOn_13 : decode cX0_betOn 13 = .ok (.iload_n 2, 1) := dk_28 (dk_at dksX0_betOn_0 13 rfl rfl)
theorem dX0_betOn_14 : decode cX0_betOn 14 = .ok (.if_icmp .eq 8, 3) := dk_159 0 8 (dk_at dksX0_betOn_0 14 rfl rfl)
theorem dX0_betOn_17 : decode cX0_betOn 17 = .ok (.iload 6, 2) := dk_21 6 (dk_at dksX0_betOn_0 17 rfl rfl)
theorem dX0_betOn_19 : decode cX0_betOn 19 = .ok (.ifCond .ne 55, 3) := dk_154 0 55 (dk_at dksX0_betOn_0 19 rfl rfl)
theorem dX0_betOn_22 : decode cX0_betOn 22 = .ok (.lload 4, 2) := dk_22 4 (dk_at dksX0_betOn_0 22 rfl rfl)
theorem dX0_betOn_24 : decode cX0_betOn 24 = .ok (.lstore 7, 2) := dk_55 7 (dk_at dksX0_betOn_1 0 rfl rfl)
theorem dX0_betOn_26 : decode cX0_betOn 26 = .ok (.iload_n 1, 1) := dk_27 (dk_at dksX0_betOn_1 2 rfl rfl)
theorem dX0_betOn_27 : decode cX0_betOn 27 = .ok (.istore 9, 2) := dk_54 9 (dk_at dksX0_betOn_1 3 rfl rfl)
theorem dX0_betOn_29 : decode cX0_betOn 29 = .ok (.iload 9, 2) := dk_21 9 (dk_at dksX0_betOn_1 5 rfl rfl)
theorem dX0_betOn_31 : decode cX0_betOn 31 = .ok (.iload_n 2, 1) := dk_28 (dk_at dksX0_betOn_1 7 rfl rfl)
theorem dX0_betOn_32 : decode cX0_betOn 32 = .ok (.if_icmp .ge 17, 3) := dk_162 0 17 (dk_at dksX0_betOn_1 8 rfl rfl)
theorem dX0_betOn_35 : decode cX0_betOn 35 = .ok (.lload 7, 2) := dk_22 7 (dk_at dksX0_betOn_1 11 rfl rfl)
theorem dX0_betOn_37 : decode cX0_betOn 37 = .ok (.ldc2_w 367, 3) := dk_20 1 111 (dk_at dksX0_betOn_1 13 rfl rfl)
theorem dX0_betOn_40 : decode cX0_betOn 40 = .ok (.lmul, 1) := dk_105 (dk_at dksX0_betOn_1 16 rfl rfl)
theorem dX0_betOn_41 : decode cX0_betOn 41 = .ok (.lstore 7, 2) := dk_55 7 (dk_at dksX0_betOn_1 17 rfl rfl)
theorem dX0_betOn_43 : decode cX0_betOn 43 = .ok (.iinc 9 1, 3) := dk_132 9 1 (dk_at dksX0_betOn_1 19 rfl rfl)
theorem dX0_betOn_46 : decode cX0_betOn 46 = .ok (.goto (-17), 3) := dk_167 255 239 (dk_at dksX0_betOn_2 0 rfl rfl)
theorem dX0_betOn_49 : decode cX0_betOn 49 = .ok (.aload_n 0, 1) := dk_42 (dk_at dksX0_betOn_2 3 rfl rfl)
theorem dX0_betOn_50 : decode cX0_betOn 50 = .ok (.dup, 1) := dk_89 (dk_at dksX0_betOn_2 4 rfl rfl)
theorem dX0_betOn_51 : decode cX0_betOn 51 = .ok (.getfield 369, 3) := dk_180 1 113 (dk_at dksX0_betOn_2 5 rfl rfl)
theorem dX0_betOn_54 : decode cX0_betOn 54 = .ok (.iload 6, 2) := dk_21 6 (dk_at dksX0_betOn_2 8 rfl rfl)
theorem dX0_betOn_56 : decode cX0_betOn 56 = .ok (.iload_n 3, 1) := dk_29 (dk_at dksX0_betOn_2 10 rfl rfl)
theorem dX0_betOn_57 : decode cX0_betOn 57 = .ok (.invokestatic 302, 3) := dk_184 1 46 (dk_at dksX0_betOn_2 11 rfl rfl)
theorem dX0_betOn_60 : decode cX0_betOn 60 = .ok (.ifCond .eq 8, 3) := dk_153 0 8 (dk_at dksX0_betOn_2 14 rfl rfl)
theorem dX0_betOn_63 : decode cX0_betOn 63 = .ok (.lload 7, 2) := dk_22 7 (dk_at dksX0_betOn_2 17 rfl rfl)
theorem dX0_betOn_65 : decode cX0_betOn 65 = .ok (.goto 4, 3) := dk_167 0 4 (dk_at dksX0_betOn_2 19 rfl rfl)
theorem dX0_betOn_68 : decode cX0_betOn 68 = .ok (.lconst 0, 1) := dk_9 (dk_at dksX0_betOn_2 22 rfl rfl)
theorem dX0_betOn_69 : decode cX0_betOn 69 = .ok (.ladd, 1) := dk_97 (dk_at dksX0_betOn_2 23 rfl rfl)
theorem dX0_betOn_70 : decode cX0_betOn 70 = .ok (.putfield 369, 3) := dk_181 1 113 (dk_at dksX0_betOn_3 0 rfl rfl)
theorem dX0_betOn_73 : decode cX0_betOn 73 = .ok (.return_, 1) := dk_177 (dk_at dksX0_betOn_3 3 rfl rfl)
theorem dX0_betOn_74 : decode cX0_betOn 74 = .ok (.iconst 0, 1) := dk_3 (dk_at dksX0_betOn_3 4 rfl rfl)
theorem dX0_betOn_75 : decode cX0_betOn 75 = .ok (.istore 7, 2) := dk_54 7 (dk_at dksX0_betOn_3 5 rfl rfl)
theorem dX0_betOn_77 : decode cX0_betOn 77 = .ok (.iload 7, 2) := dk_21 7 (dk_at dksX0_betOn_3 7 rfl rfl)
theorem dX0_betOn_79 : decode cX0_betOn 79 = .ok (.aload_n 0, 1) := dk_42 (dk_at dksX0_betOn_3 9 rfl rfl)
theorem dX0_betOn_80 : decode cX0_betOn 80 = .ok (.getfield 191, 3) := dk_180 0 191 (dk_at dksX0_betOn_3 10 rfl rfl)
theorem dX0_betOn_83 : decode cX0_betOn 83 = .ok (.if_icmp .ge 47, 3) := dk_162 0 47 (dk_at dksX0_betOn_3 13 rfl rfl)
theorem dX0_betOn_86 : decode cX0_betOn 86 = .ok (.iload 6, 2) := dk_21 6 (dk_at dksX0_betOn_3 16 rfl rfl)
theorem dX0_betOn_88 : decode cX0_betOn 88 = .ok (.iload 7, 2) := dk_21 7 (dk_at dksX0_betOn_3 18 rfl rfl)
theorem dX0_betOn_90 : decode cX0_betOn 90 = .ok (.invokestatic 302, 3) := dk_184 1 46 (dk_at dksX0_betOn_3 20 rfl rfl)
theorem dX0_betOn_93 : decode cX0_betOn 93 = .ok (.ifCond .eq 31, 3) := dk_153 0 31 (dk_at dksX0_betOn_4 0 rfl rfl)
theorem dX0_betOn_96 : decode cX0_betOn 96 = .ok (.aload_n 0, 1) := dk_42 (dk_at dksX0_betOn_4 3 rfl rfl)
theorem dX0_betOn_97 : decode cX0_betOn 97 = .ok (.iload_n 1, 1) := dk_27 (dk_at dksX0_betOn_4 4 rfl rfl)
theorem dX0_betOn_98 : decode cX0_betOn 98 = .ok (.iload 7, 2) := dk_21 7 (dk_at dksX0_betOn_4 5 rfl rfl)
theorem dX0_betOn_100 : decode cX0_betOn 100 = .ok (.invokevirtual 306, 3) := dk_182 1 50 (dk_at dksX0_betOn_4 7 rfl rfl)
theorem dX0_betOn_103 : decode cX0_betOn 103 = .ok (.aload_n 0, 1) := dk_42 (dk_at dksX0_betOn_4 10 rfl rfl)
theorem dX0_betOn_104 : decode cX0_betOn 104 = .ok (.iload_n 1, 1) := dk_27 (dk_at dksX0_betOn_4 11 rfl rfl)
theorem dX0_betOn_105 : decode cX0_betOn 105 = .ok (.iconst 1, 1) := dk_4 (dk_at dksX0_betOn_4 12 rfl rfl)
theorem dX0_betOn_106 : decode cX0_betOn 106 = .ok (.iadd, 1) := dk_96 (dk_at dksX0_betOn_4 13 rfl rfl)
theorem dX0_betOn_107 : decode cX0_betOn 107 = .ok (.iload_n 2, 1) := dk_28 (dk_at dksX0_betOn_4 14 rfl rfl)
theorem dX0_betOn_108 : decode cX0_betOn 108 = .ok (.iload_n 3, 1) := dk_29 (dk_at dksX0_betOn_4 15 rfl rfl)
theorem dX0_betOn_109 : decode cX0_betOn 109 = .ok (.lload 4, 2) := dk_22 4 (dk_at dksX0_betOn_4 16 rfl rfl)
theorem dX0_betOn_111 : decode cX0_betOn 111 = .ok (.bipush 60, 2) := dk_16 60 (dk_at dksX0_betOn_4 18 rfl rfl)
theorem dX0_betOn_113 : decode cX0_betOn 113 = .ok (.iload 6, 2) := dk_21 6 (dk_at dksX0_betOn_4 20 rfl rfl)
theorem dX0_betOn_115 : decode cX0_betOn 115 = .ok (.invokestatic 350, 3) := dk_184 1 94 (dk_at dksX0_betOn_5 0 rfl rfl)
theorem dX0_betOn_118 : decode cX0_betOn 118 = .ok (.idiv, 1) := dk_108 (dk_at dksX0_betOn_5 3 rfl rfl)
theorem dX0_betOn_119 : decode cX0_betOn 119 = .ok (.i2l, 1) := dk_133 (dk_at dksX0_betOn_5 4 rfl rfl)
theorem dX0_betOn_120 : decode cX0_betOn 120 = .ok (.lmul, 1) := dk_105 (dk_at dksX0_betOn_5 5 rfl rfl)
theorem dX0_betOn_121 : decode cX0_betOn 121 = .ok (.invokevirtual 372, 3) := dk_182 1 116 (dk_at dksX0_betOn_5 6 rfl rfl)
theorem dX0_betOn_124 : decode cX0_betOn 124 = .ok (.iinc 7 1, 3) := dk_132 7 1 (dk_at dksX0_betOn_5 9 rfl rfl)
theorem dX0_betOn_127 : decode cX0_betOn 127 = .ok (.goto (-50), 3) := dk_167 255 206 (dk_at dksX0_betOn_5 12 rfl rfl)
theorem dX0_betOn_130 : decode cX0_betOn 130 = .ok (.return_, 1) := dk_177 (dk_at dksX0_betOn_5 15 rfl rfl)
abbrev cX0_wind : ByteArray := prog_1_method_76_code
def yX0_wind : MethodName := ⟨RX0, "wind", "(II)I"⟩
def dkwX0_wind_6 : List UInt8 := [21, 5, 172]
abbrev dktX0_wind_6 : List UInt8 := dkwX0_wind_6 ++ []
def dkwX0_wind_5 : List UInt8 := [180, 0, 51, 21, 6, 184, 1, 125, 182, 0, 251, 132, 5, 1, 42, 182, 1, 13, 54, 6, 167, 255, 178]
abbrev dktX0_wind_5 : List UInt8 := dkwX0_wind_5 ++ dktX0_wind_6
def dkwX0_wind_4 : List UInt8 := [158, 0, 18, 21, 6, 21, 6, 4, 100, 126, 54, 6, 132, 7, 255, 167, 255, 239, 42, 182, 0, 248, 42, 42]
abbrev dktX0_wind_4 : List UInt8 := dkwX0_wind_4 ++ dktX0_wind_5
def dkwX0_wind_3 : List UInt8 := [20, 1, 121, 33, 105, 20, 1, 123, 113, 66, 33, 21, 6, 184, 1, 94, 133, 113, 136, 54, 7, 21, 7]
abbrev dktX0_wind_3 : List UInt8 := dkwX0_wind_3 ++ dktX0_wind_4
def dkwX0_wind_2 : List UInt8 := [133, 66, 3, 54, 5, 42, 182, 1, 13, 54, 6, 21, 5, 27, 162, 0, 78, 21, 6, 153, 0, 73]
abbrev dktX0_wind_2 : List UInt8 := dkwX0_wind_2 ++ dktX0_wind_3
def dkwX0_wind_1 : List UInt8 := [180, 0, 191, 154, 0, 6, 16, 252, 172, 42, 180, 0, 200, 27, 96, 16, 60, 164, 0, 6, 16, 254, 172, 28]
abbrev dktX0_wind_1 : List UInt8 := dkwX0_wind_1 ++ dktX0_wind_2
def dkwX0_wind_0 : List UInt8 := [27, 4, 16, 60, 184, 0, 105, 153, 0, 14, 28, 4, 19, 1, 120, 184, 0, 105, 154, 0, 5, 2, 172, 42]
abbrev dktX0_wind_0 : List UInt8 := dkwX0_wind_0 ++ dktX0_wind_1
theorem dksX0_wind_0 : cX0_wind.data.toList.drop 0 = dktX0_wind_0 := by decide +kernel
theorem dksX0_wind_1 : cX0_wind.data.toList.drop 24 = dktX0_wind_1 := dk_seg dksX0_wind_0 24 rfl rfl
theorem dksX0_wind_2 : cX0_wind.data.toList.drop 48 = dktX0_wind_2 := dk_seg dksX0_wind_1 24 rfl rfl
theorem dksX0_wind_3 : cX0_wind.data.toList.drop 70 = dktX0_wind_3 := dk_seg dksX0_wind_2 22 rfl rfl
theorem dksX0_wind_4 : cX0_wind.data.toList.drop 93 = dktX0_wind_4 := dk_seg dksX0_wind_3 23 rfl rfl
theorem dksX0_wind_5 : cX0_wind.data.toList.drop 117 = dktX0_wind_5 := dk_seg dksX0_wind_4 24 rfl rfl
theorem dksX0_wind_6 : cX0_wind.data.toList.drop 140 = dktX0_wind_6 := dk_seg dksX0_wind_5 23 rfl rfl
theorem dX0_wind_0 : decode cX0_wind 0 = .ok (.iload_n 1, 1) := dk_27 (dk_at dksX0_wind_0 0 rfl rfl)
theorem dX0_wind_1 : decode cX0_wind 1 = .ok (.iconst 1, 1) := dk_4 (dk_at dksX0_wind_0 1 rfl rfl)
theorem dX0_wind_2 : decode cX0_wind 2 = .ok (.bipush 60, 2) := dk_16 60 (dk_at dksX0_wind_0 2 rfl rfl)
theorem dX0_wind_4 : decode cX0_wind 4 = .ok (.invokestatic 105, 3) := dk_184 0 105 (dk_at dksX0_wind_0 4 rfl rfl)
theorem dX0_wind_7 : decode cX0_wind 7 = .ok (.ifCond .eq 14, 3) := dk_153 0 14 (dk_at dksX0_wind_0 7 rfl rfl)
theorem dX0_wind_10 : decode cX0_wind 10 = .ok (.iload_n 2, 1) := dk_28 (dk_at dksX0_wind_0 10 rfl rfl)
theorem dX0_wind_11 : decode cX0_wind 11 = .ok (.iconst 1, 1) := dk_4 (dk_at dksX0_wind_0 11 rfl rfl)
theorem dX0_wind_12 : decode cX0_wind 12 = .ok (.ldc_w 376, 3) := dk_19 1 120 (dk_at dksX0_wind_0 12 rfl rfl)
theorem dX0_wind_15 : decode cX0_wind 15 = .ok (.invokestatic 105, 3) := dk_184 0 105 (dk_at dksX0_wind_0 15 rfl rfl)
theorem dX0_wind_18 : decode cX0_wind 18 = .ok (.ifCond .ne 5, 3) := dk_154 0 5 (dk_at dksX0_wind_0 18 rfl rfl)
theorem dX0_wind_21 : decode cX0_wind 21 = .ok (.iconst (-1), 1) := dk_2 (dk_at dksX0_wind_0 21 rfl rfl)
theorem dX0_wind_22 : decode cX0_wind 22 = .ok (.ireturn, 1) := dk_172 (dk_at dksX0_wind_0 22 rfl rfl)
theorem dX0_wind_23 : decode cX0_wind 23 = .ok (.aload_n 0, 1) := dk_42 (dk_at dksX0_wind_0 23 rfl rfl)
theorem dX0_wind_24 : decode cX0_wind 24 = .ok (.getfield 191, 3) := dk_180 0 191 (dk_at dksX0_wind_1 0 rfl rfl)
theorem dX0_wind_27 : decode cX0_wind 27 = .ok (.ifCond .ne 6, 3) := dk_154 0 6 (dk_at dksX0_wind_1 3 rfl rfl)
theorem dX0_wind_30 : decode cX0_wind 30 = .ok (.bipush (-4), 2) := dk_16 252 (dk_at dksX0_wind_1 6 rfl rfl)
theorem dX0_wind_32 : decode cX0_wind 32 = .ok (.ireturn, 1) := dk_172 (dk_at dksX0_wind_1 8 rfl rfl)
theorem dX0_wind_33 : decode cX0_wind 33 = .ok (.aload_n 0, 1) := dk_42 (dk_at dksX0_wind_1 9 rfl rfl)
theorem dX0_wind_34 : decode cX0_wind 34 = .ok (.getfield 200, 3) := dk_180 0 200 (dk_at dksX0_wind_1 10 rfl rfl)
theorem dX0_wind_37 : decode cX0_wind 37 = .ok (.iload_n 1, 1) := dk_27 (dk_at dksX0_wind_1 13 rfl rfl)
theorem dX0_wind_38 : decode cX0_wind 38 = .ok (.iadd, 1) := dk_96 (dk_at dksX0_wind_1 14 rfl rfl)
theorem dX0_wind_39 : decode cX0_wind 39 = .ok (.bipush 60, 2) := dk_16 60 (dk_at dksX0_wind_1 15 rfl rfl)
theorem dX0_wind_41 : decode cX0_wind 41 = .ok (.if_icmp .le 6, 3) := dk_164 0 6 (dk_at dksX0_wind_1 17 rfl rfl)
theorem dX0_wind_44 : decode cX0_wind 44 = .ok (.bipush (-2), 2) := dk_16 254 (dk_at dksX0_wind_1 20 rfl rfl)
theorem dX0_wind_46 : decode cX0_wind 46 = .ok (.ireturn, 1) := dk_172 (dk_at dksX0_wind_1 22 rfl rfl)
theorem dX0_wind_47 : decode cX0_wind 47 = .ok (.iload_n 2, 1) := dk_28 (dk_at dksX0_wind_1 23 rfl rfl)
theorem dX0_wind_48 : decode cX0_wind 48 = .ok (.i2l, 1) := dk_133 (dk_at dksX0_wind_2 0 rfl rfl)
theorem dX0_wind_49 : decode cX0_wind 49 = .ok (.lstore_n 3, 1) := dk_66 (dk_at dksX0_wind_2 1 rfl rfl)
theorem dX0_wind_50 : decode cX0_wind 50 = .ok (.iconst 0, 1) := dk_3 (dk_at dksX0_wind_2 2 rfl rfl)
theorem dX0_wind_51 : decode cX0_wind 51 = .ok (.istore 5, 2) := dk_54 5 (dk_at dksX0_wind_2 3 rfl rfl)
theorem dX0_wind_53 : decode cX0_wind 53 = .ok (.aload_n 0, 1) := dk_42 (dk_at dksX0_wind_2 5 rfl rfl)
theorem dX0_wind_54 : decode cX0_wind 54 = .ok (.invokevirtual 269, 3) := dk_182 1 13 (dk_at dksX0_wind_2 6 rfl rfl)
theorem dX0_wind_57 : decode cX0_wind 57 = .ok (.istore 6, 2) := dk_54 6 (dk_at dksX0_wind_2 9 rfl rfl)
theorem dX0_wind_59 : decode cX0_wind 59 = .ok (.iload 5, 2) := dk_21 5 (dk_at dksX0_wind_2 11 rfl rfl)
theorem dX0_wind_61 : decode cX0_wind 61 = .ok (.iload_n 1, 1) := dk_27 (dk_at dksX0_wind_2 13 rfl rfl)
theorem dX0_wind_62 : decode cX0_wind 62 = .ok (.if_icmp .ge 78, 3) := dk_162 0 78 (dk_at dksX0_wind_2 14 rfl rfl)
theorem dX0_wind_65 : decode cX0_wind 65 = .ok (.iload 6, 2) := dk_21 6 (dk_at dksX0_wind_2 17 rfl rfl)
theorem dX0_wind_67 : decode cX0_wind 67 = .ok (.ifCond .eq 73, 3) := dk_153 0 73 (dk_at dksX0_wind_2 19 rfl rfl)
theorem dX0_wind_70 : decode cX0_wind 70 = .ok (.ldc2_w 377, 3) := dk_20 1 121 (dk_at dksX0_wind_3 0 rfl rfl)
theorem dX0_wind_73 : decode cX0_wind 73 = .ok (.lload_n 3, 1) := dk_33 (dk_at dksX0_wind_3 3 rfl rfl)
theorem dX0_wind_74 : decode cX0_wind 74 = .ok (.lmul, 1) := dk_105 (dk_at dksX0_wind_3 4 rfl rfl)
theorem dX0_wind_75 : decode cX0_wind 75 = .ok (.ldc2_w 379, 3) := dk_20 1 123 (dk_at dksX0_wind_3 5 rfl rfl)
theorem dX0_wind_78 : decode cX0_wind 78 = .ok (.lrem, 1) := dk_113 (dk_at dksX0_wind_3 8 rfl rfl)
theorem dX0_wind_79 : decode cX0_wind 79 = .ok (.lstore_n 3, 1) := dk_66 (dk_at dksX0_wind_3 9 rfl rfl)
theorem dX0_wind_80 : decode cX0_wind 80 = .ok (.lload_n 3, 1) := dk_33 (dk_at dksX0_wind_3 10 rfl rfl)
theorem dX0_wind_81 : decode cX0_wind 81 = .ok (.iload 6, 2) := dk_21 6 (dk_at dksX0_wind_3 11 rfl rfl)
theorem dX0_wind_83 : decode cX0_wind 83 = .ok (.invokestatic 350, 3) := dk_184 1 94 (dk_at dksX0_wind_3 13 rfl rfl)
theorem dX0_wind_86 : decode cX0_wind 86 = .ok (.i2l, 1) := dk_133 (dk_at dksX0_wind_3 16 rfl rfl)
theorem dX0_wind_87 : decode cX0_wind 87 = .ok (.lrem, 1) := dk_113 (dk_at dksX0_wind_3 17 rfl rfl)
theorem dX0_wind_88 : decode cX0_wind 88 = .ok (.l2i, 1) := dk_136 (dk_at dksX0_wind_3 18 rfl rfl)
theorem dX0_wind_89 : decode cX0_wind 89 = .ok (.istore 7, 2) := dk_54 7 (dk_at dksX0_wind_3 19 rfl rfl)
theorem dX0_wind_91 : decode cX0_wind 91 = .ok (.iload 7, 2) := dk_21 7 (dk_at dksX0_wind_3 21 rfl rfl)
theorem dX0_wind_93 : decode cX0_wind 93 = .ok (.ifCond .le 18, 3) := dk_158 0 18 (dk_at dksX0_wind_4 0 rfl rfl)
theorem dX0_wind_96 : decode cX0_wind 96 = .ok (.iload 6, 2) := dk_21 6 (dk_at dksX0_wind_4 3 rfl rfl)
theorem dX0_wind_98 : decode cX0_wind 98 = .ok (.iload 6, 2) := dk_21 6 (dk_at dksX0_wind_4 5 rfl rfl)
theorem dX0_wind_100 : decode cX0_wind 100 = .ok (.iconst 1, 1) := dk_4 (dk_at dksX0_wind_4 7 rfl rfl)
theorem dX0_wind_101 : decode cX0_wind 101 = .ok (.isub, 1) := dk_100 (dk_at dksX0_wind_4 8 rfl rfl)
theorem dX0_wind_102 : decode cX0_wind 102 = .ok (.iand, 1) := dk_126 (dk_at dksX0_wind_4 9 rfl rfl)
theorem dX0_wind_103 : decode cX0_wind 103 = .ok (.istore 6, 2) := dk_54 6 (dk_at dksX0_wind_4 10 rfl rfl)
theorem dX0_wind_105 : decode cX0_wind 105 = .ok (.iinc 7 (-1), 3) := dk_132 7 255 (dk_at dksX0_wind_4 12 rfl rfl)
theorem dX0_wind_108 : decode cX0_wind 108 = .ok (.goto (-17), 3) := dk_167 255 239 (dk_at dksX0_wind_4 15 rfl rfl)
theorem dX0_wind_111 : decode cX0_wind 111 = .ok (.aload_n 0, 1) := dk_42 (dk_at dksX0_wind_4 18 rfl rfl)
theorem dX0_wind_112 : decode cX0_wind 112 = .ok (.invokevirtual 248, 3) := dk_182 0 248 (dk_at dksX0_wind_4 19 rfl rfl)
theorem dX0_wind_115 : decode cX0_wind 115 = .ok (.aload_n 0, 1) := dk_42 (dk_at dksX0_wind_4 22 rfl rfl)
theorem dX0_wind_116 : decode cX0_wind 116 = .ok (.aload_n 0, 1) := dk_42 (dk_at dksX0_wind_4 23 rfl rfl)
theorem dX0_wind_117 : decode cX0_wind 117 = .ok (.getfield 51, 3) := dk_180 0 51 (dk_at dksX0_wind_5 0 rfl rfl)
theorem dX0_wind_120 : decode cX0_wind 120 = .ok (.iload 6, 2) := dk_21 6 (dk_at dksX0_wind_5 3 rfl rfl)
theorem dX0_wind_122 : decode cX0_wind 122 = .ok (.invokestatic 381, 3) := dk_184 1 125 (dk_at dksX0_wind_5 5 rfl rfl)
theorem dX0_wind_125 : decode cX0_wind 125 = .ok (.invokevirtual 251, 3) := dk_182 0 251 (dk_at dksX0_wind_5 8 rfl rfl)
theorem dX0_wind_128 : decode cX0_wind 128 = .ok (.iinc 5 1, 3) := dk_132 5 1 (dk_at dksX0_wind_5 11 rfl rfl)
theorem dX0_wind_131 : decode cX0_wind 131 = .ok (.aload_n 0, 1) := dk_42 (dk_at dksX0_wind_5 14 rfl rfl)
theorem dX0_wind_132 : decode cX0_wind 132 = .ok (.invokevirtual 269, 3) := dk_182 1 13 (dk_at dksX0_wind_5 15 rfl rfl)
theorem dX0_wind_135 : decode cX0_wind 135 = .ok (.istore 6, 2) := dk_54 6 (dk_at dksX0_wind_5 18 rfl rfl)
theorem dX0_wind_137 : decode cX0_wind 137 = .ok (.goto (-78), 3) := dk_167 255 178 (dk_at dksX0_wind_5 20 rfl rfl)
theorem dX0_wind_140 : decode cX0_wind 140 = .ok (.iload 5, 2) := dk_21 5 (dk_at dksX0_wind_6 0 rfl rfl)
theorem dX0_wind_142 : decode cX0_wind 142 = .ok (.ireturn, 1) := dk_172 (dk_at dksX0_wind_6 2 rfl rfl)
abbrev cX0_asked : ByteArray := prog_1_method_77_code
def yX0_asked : MethodName := ⟨RX0, "asked", "()I"⟩
theorem dX0_asked_0 : decode cX0_asked 0 = .ok (.aload_n 0, 1) := by decide +kernel
theorem dX0_asked_1 : decode cX0_asked 1 = .ok (.getfield 11, 3) := by decide +kernel
theorem dX0_asked_4 : decode cX0_asked 4 = .ok (.ireturn, 1) := by decide +kernel
abbrev cX0_upper : ByteArray := prog_1_method_78_code
def yX0_upper : MethodName := ⟨RX0, "upper", "()J"⟩
theorem dX0_upper_0 : decode cX0_upper 0 = .ok (.aload_n 0, 1) := by decide +kernel
theorem dX0_upper_1 : decode cX0_upper 1 = .ok (.getfield 18, 3) := by decide +kernel
theorem dX0_upper_4 : decode cX0_upper 4 = .ok (.lreturn, 1) := by decide +kernel
abbrev cX0_lower : ByteArray := prog_1_method_79_code
def yX0_lower : MethodName := ⟨RX0, "lower", "()J"⟩
theorem dX0_lower_0 : decode cX0_lower 0 = .ok (.aload_n 0, 1) := by decide +kernel
theorem dX0_lower_1 : decode cX0_lower 1 = .ok (.getfield 22, 3) := by decide +kernel
theorem dX0_lower_4 : decode cX0_lower 4 = .ok (.lreturn, 1) := by decide +kernel
abbrev cX0_count : ByteArray := prog_1_method_83_code
def yX0_count : MethodName := ⟨RX0, "count", "(I)I"⟩
def dkwX0_count_0 : List UInt8 := [27, 3, 16, 8, 184, 0, 105, 153, 0, 11, 42, 27, 182, 1, 137, 167, 0, 4, 2, 172]
abbrev dktX0_count_0 : List UInt8 := dkwX0_count_0 ++ []
theorem dksX0_count_0 : cX0_count.data.toList.drop 0 = dktX0_count_0 := by decide +kernel
theorem dX0_count_0 : decode cX0_count 0 = .ok (.iload_n 1, 1) := dk_27 (dk_at dksX0_count_0 0 rfl rfl)
theorem dX0_count_1 : decode cX0_count 1 = .ok (.iconst 0, 1) := dk_3 (dk_at dksX0_count_0 1 rfl rfl)
theorem dX0_count_2 : decode cX0_count 2 = .ok (.bipush 8, 2) := dk_16 8 (dk_at dksX0_count_0 2 rfl rfl)
theorem dX0_count_4 : decode cX0_count 4 = .ok (.invokestatic 105, 3) := dk_184 0 105 (dk_at dksX0_count_0 4 rfl rfl)
theorem dX0_count_7 : decode cX0_count 7 = .ok (.ifCond .eq 11, 3) := dk_153 0 11 (dk_at dksX0_count_0 7 rfl rfl)
theorem dX0_count_10 : decode cX0_count 10 = .ok (.aload_n 0, 1) := dk_42 (dk_at dksX0_count_0 10 rfl rfl)
theorem dX0_count_11 : decode cX0_count 11 = .ok (.iload_n 1, 1) := dk_27 (dk_at dksX0_count_0 11 rfl rfl)
theorem dX0_count_12 : decode cX0_count 12 = .ok (.invokevirtual 393, 3) := dk_182 1 137 (dk_at dksX0_count_0 12 rfl rfl)
theorem dX0_count_15 : decode cX0_count 15 = .ok (.goto 4, 3) := dk_167 0 4 (dk_at dksX0_count_0 15 rfl rfl)
theorem dX0_count_18 : decode cX0_count 18 = .ok (.iconst (-1), 1) := dk_2 (dk_at dksX0_count_0 18 rfl rfl)
theorem dX0_count_19 : decode cX0_count 19 = .ok (.ireturn, 1) := dk_172 (dk_at dksX0_count_0 19 rfl rfl)
abbrev cX0_countOf : ByteArray := prog_1_method_82_code
def yX0_countOf : MethodName := ⟨RX0, "countOf", "(I)I"⟩
def dkwX0_countOf_4 : List UInt8 := [182, 1, 131, 172, 42, 27, 182, 1, 134, 172]
abbrev dktX0_countOf_4 : List UInt8 := dkwX0_countOf_4 ++ []
def dkwX0_countOf_3 : List UInt8 := [180, 0, 51, 180, 0, 194, 16, 7, 46, 172, 42, 180, 0, 51, 180, 0, 194, 16, 8, 46, 172, 42, 4]
abbrev dktX0_countOf_3 : List UInt8 := dkwX0_countOf_3 ++ dktX0_countOf_4
def dkwX0_countOf_2 : List UInt8 := [42, 180, 0, 191, 172, 42, 180, 0, 200, 172, 42, 180, 0, 51, 180, 0, 194, 16, 6, 46, 172, 42]
abbrev dktX0_countOf_2 : List UInt8 := dkwX0_countOf_2 ++ dktX0_countOf_3
def dkwX0_countOf_1 : List UInt8 := [170, 0, 0, 0, 0, 0, 88, 0, 0, 0, 0, 0, 0, 0, 5, 0, 0, 0, 39, 0, 0, 0, 44, 0, 0, 0, 49, 0, 0, 0, 60, 0, 0, 0, 71, 0, 0, 0, 82]
abbrev dktX0_countOf_1 : List UInt8 := dkwX0_countOf_1 ++ dktX0_countOf_2
def dkwX0_countOf_0 : List UInt8 := [27]
abbrev dktX0_countOf_0 : List UInt8 := dkwX0_countOf_0 ++ dktX0_countOf_1
theorem dksX0_countOf_0 : cX0_countOf.data.toList.drop 0 = dktX0_countOf_0 := by decide +kernel
theorem dksX0_countOf_1 : cX0_countOf.data.toList.drop 1 = dktX0_countOf_1 := dk_seg dksX0_countOf_0 1 rfl rfl
theorem dksX0_countOf_2 : cX0_countOf.data.toList.drop 40 = dktX0_countOf_2 := dk_seg dksX0_countOf_1 39 rfl rfl
theorem dksX0_countOf_3 : cX0_countOf.data.toList.drop 62 = dktX0_countOf_3 := dk_seg dksX0_countOf_2 22 rfl rfl
theorem dksX0_countOf_4 : cX0_countOf.data.toList.drop 85 = dktX0_countOf_4 := dk_seg dksX0_countOf_3 23 rfl rfl
theorem dX0_countOf_0 : decode cX0_countOf 0 = .ok (.iload_n 1, 1) := dk_27 (dk_at dksX0_countOf_0 0 rfl rfl)
theorem dX0_countOf_1 : decode cX0_countOf 1 = .ok (.tableswitch 88 0 5 #[39, 44, 49, 60, 71, 82], 39) := by decide +kernel
theorem dX0_countOf_40 : decode cX0_countOf 40 = .ok (.aload_n 0, 1) := dk_42 (dk_at dksX0_countOf_2 0 rfl rfl)
theorem dX0_countOf_41 : decode cX0_countOf 41 = .ok (.getfield 191, 3) := dk_180 0 191 (dk_at dksX0_countOf_2 1 rfl rfl)
theorem dX0_countOf_44 : decode cX0_countOf 44 = .ok (.ireturn, 1) := dk_172 (dk_at dksX0_countOf_2 4 rfl rfl)
theorem dX0_countOf_45 : decode cX0_countOf 45 = .ok (.aload_n 0, 1) := dk_42 (dk_at dksX0_countOf_2 5 rfl rfl)
theorem dX0_countOf_46 : decode cX0_countOf 46 = .ok (.getfield 200, 3) := dk_180 0 200 (dk_at dksX0_countOf_2 6 rfl rfl)
theorem dX0_countOf_49 : decode cX0_countOf 49 = .ok (.ireturn, 1) := dk_172 (dk_at dksX0_countOf_2 9 rfl rfl)
theorem dX0_countOf_50 : decode cX0_countOf 50 = .ok (.aload_n 0, 1) := dk_42 (dk_at dksX0_countOf_2 10 rfl rfl)
theorem dX0_countOf_51 : decode cX0_countOf 51 = .ok (.getfield 51, 3) := dk_180 0 51 (dk_at dksX0_countOf_2 11 rfl rfl)
theorem dX0_countOf_54 : decode cX0_countOf 54 = .ok (.getfield 194, 3) := dk_180 0 194 (dk_at dksX0_countOf_2 14 rfl rfl)
theorem dX0_countOf_57 : decode cX0_countOf 57 = .ok (.bipush 6, 2) := dk_16 6 (dk_at dksX0_countOf_2 17 rfl rfl)
theorem dX0_countOf_59 : decode cX0_countOf 59 = .ok (.iaload, 1) := dk_46 (dk_at dksX0_countOf_2 19 rfl rfl)
theorem dX0_countOf_60 : decode cX0_countOf 60 = .ok (.ireturn, 1) := dk_172 (dk_at dksX0_countOf_2 20 rfl rfl)
theorem dX0_countOf_61 : decode cX0_countOf 61 = .ok (.aload_n 0, 1) := dk_42 (dk_at dksX0_countOf_2 21 rfl rfl)
theorem dX0_countOf_62 : decode cX0_countOf 62 = .ok (.getfield 51, 3) := dk_180 0 51 (dk_at dksX0_countOf_3 0 rfl rfl)
theorem dX0_countOf_65 : decode cX0_countOf 65 = .ok (.getfield 194, 3) := dk_180 0 194 (dk_at dksX0_countOf_3 3 rfl rfl)
theorem dX0_countOf_68 : decode cX0_countOf 68 = .ok (.bipush 7, 2) := dk_16 7 (dk_at dksX0_countOf_3 6 rfl rfl)
theorem dX0_countOf_70 : decode cX0_countOf 70 = .ok (.iaload, 1) := dk_46 (dk_at dksX0_countOf_3 8 rfl rfl)
theorem dX0_countOf_71 : decode cX0_countOf 71 = .ok (.ireturn, 1) := dk_172 (dk_at dksX0_countOf_3 9 rfl rfl)
theorem dX0_countOf_72 : decode cX0_countOf 72 = .ok (.aload_n 0, 1) := dk_42 (dk_at dksX0_countOf_3 10 rfl rfl)
theorem dX0_countOf_73 : decode cX0_countOf 73 = .ok (.getfield 51, 3) := dk_180 0 51 (dk_at dksX0_countOf_3 11 rfl rfl)
theorem dX0_countOf_76 : decode cX0_countOf 76 = .ok (.getfield 194, 3) := dk_180 0 194 (dk_at dksX0_countOf_3 14 rfl rfl)
theorem dX0_countOf_79 : decode cX0_countOf 79 = .ok (.bipush 8, 2) := dk_16 8 (dk_at dksX0_countOf_3 17 rfl rfl)
theorem dX0_countOf_81 : decode cX0_countOf 81 = .ok (.iaload, 1) := dk_46 (dk_at dksX0_countOf_3 19 rfl rfl)
theorem dX0_countOf_82 : decode cX0_countOf 82 = .ok (.ireturn, 1) := dk_172 (dk_at dksX0_countOf_3 20 rfl rfl)
theorem dX0_countOf_83 : decode cX0_countOf 83 = .ok (.aload_n 0, 1) := dk_42 (dk_at dksX0_countOf_3 21 rfl rfl)
theorem dX0_countOf_84 : decode cX0_countOf 84 = .ok (.iconst 1, 1) := dk_4 (dk_at dksX0_countOf_3 22 rfl rfl)
theorem dX0_countOf_85 : decode cX0_countOf 85 = .ok (.invokevirtual 387, 3) := dk_182 1 131 (dk_at dksX0_countOf_4 0 rfl rfl)
theorem dX0_countOf_88 : decode cX0_countOf 88 = .ok (.ireturn, 1) := dk_172 (dk_at dksX0_countOf_4 3 rfl rfl)
theorem dX0_countOf_89 : decode cX0_countOf 89 = .ok (.aload_n 0, 1) := dk_42 (dk_at dksX0_countOf_4 4 rfl rfl)
theorem dX0_countOf_90 : decode cX0_countOf 90 = .ok (.iload_n 1, 1) := dk_27 (dk_at dksX0_countOf_4 5 rfl rfl)
theorem dX0_countOf_91 : decode cX0_countOf 91 = .ok (.invokevirtual 390, 3) := dk_182 1 134 (dk_at dksX0_countOf_4 6 rfl rfl)
theorem dX0_countOf_94 : decode cX0_countOf 94 = .ok (.ireturn, 1) := dk_172 (dk_at dksX0_countOf_4 9 rfl rfl)
abbrev cX0_keysOf : ByteArray := prog_1_method_80_code
def yX0_keysOf : MethodName := ⟨RX0, "keysOf", "(I)I"⟩
def dkwX0_keysOf_1 : List UInt8 := [153, 0, 7, 4, 167, 0, 4, 3, 96, 61, 132, 3, 1, 167, 255, 224, 28, 172]
abbrev dktX0_keysOf_1 : List UInt8 := dkwX0_keysOf_1 ++ []
def dkwX0_keysOf_0 : List UInt8 := [3, 61, 3, 62, 29, 42, 180, 0, 191, 162, 0, 30, 28, 42, 180, 0, 44, 29, 50, 27, 182, 1, 128]
abbrev dktX0_keysOf_0 : List UInt8 := dkwX0_keysOf_0 ++ dktX0_keysOf_1
theorem dksX0_keysOf_0 : cX0_keysOf.data.toList.drop 0 = dktX0_keysOf_0 := by decide +kernel
theorem dksX0_keysOf_1 : cX0_keysOf.data.toList.drop 23 = dktX0_keysOf_1 := dk_seg dksX0_keysOf_0 23 rfl rfl
theorem dX0_keysOf_0 : decode cX0_keysOf 0 = .ok (.iconst 0, 1) := dk_3 (dk_at dksX0_keysOf_0 0 rfl rfl)
theorem dX0_keysOf_1 : decode cX0_keysOf 1 = .ok (.istore_n 2, 1) := dk_61 (dk_at dksX0_keysOf_0 1 rfl rfl)
theorem dX0_keysOf_2 : decode cX0_keysOf 2 = .ok (.iconst 0, 1) := dk_3 (dk_at dksX0_keysOf_0 2 rfl rfl)
theorem dX0_keysOf_3 : decode cX0_keysOf 3 = .ok (.istore_n 3, 1) := dk_62 (dk_at dksX0_keysOf_0 3 rfl rfl)
theorem dX0_keysOf_4 : decode cX0_keysOf 4 = .ok (.iload_n 3, 1) := dk_29 (dk_at dksX0_keysOf_0 4 rfl rfl)
theorem dX0_keysOf_5 : decode cX0_keysOf 5 = .ok (.aload_n 0, 1) := dk_42 (dk_at dksX0_keysOf_0 5 rfl rfl)
theorem dX0_keysOf_6 : decode cX0_keysOf 6 = .ok (.getfield 191, 3) := dk_180 0 191 (dk_at dksX0_keysOf_0 6 rfl rfl)
theorem dX0_keysOf_9 : decode cX0_keysOf 9 = .ok (.if_icmp .ge 30, 3) := dk_162 0 30 (dk_at dksX0_keysOf_0 9 rfl rfl)
theorem dX0_keysOf_12 : decode cX0_keysOf 12 = .ok (.iload_n 2, 1) := dk_28 (dk_at dksX0_keysOf_0 12 rfl rfl)
theorem dX0_keysOf_13 : decode cX0_keysOf 13 = .ok (.aload_n 0, 1) := dk_42 (dk_at dksX0_keysOf_0 13 rfl rfl)
theorem dX0_keysOf_14 : decode cX0_keysOf 14 = .ok (.getfield 44, 3) := dk_180 0 44 (dk_at dksX0_keysOf_0 14 rfl rfl)
theorem dX0_keysOf_17 : decode cX0_keysOf 17 = .ok (.iload_n 3, 1) := dk_29 (dk_at dksX0_keysOf_0 17 rfl rfl)
theorem dX0_keysOf_18 : decode cX0_keysOf 18 = .ok (.aaload, 1) := dk_50 (dk_at dksX0_keysOf_0 18 rfl rfl)
theorem dX0_keysOf_19 : decode cX0_keysOf 19 = .ok (.iload_n 1, 1) := dk_27 (dk_at dksX0_keysOf_0 19 rfl rfl)
theorem dX0_keysOf_20 : decode cX0_keysOf 20 = .ok (.invokevirtual 384, 3) := dk_182 1 128 (dk_at dksX0_keysOf_0 20 rfl rfl)
theorem dX0_keysOf_23 : decode cX0_keysOf 23 = .ok (.ifCond .eq 7, 3) := dk_153 0 7 (dk_at dksX0_keysOf_1 0 rfl rfl)
theorem dX0_keysOf_26 : decode cX0_keysOf 26 = .ok (.iconst 1, 1) := dk_4 (dk_at dksX0_keysOf_1 3 rfl rfl)
theorem dX0_keysOf_27 : decode cX0_keysOf 27 = .ok (.goto 4, 3) := dk_167 0 4 (dk_at dksX0_keysOf_1 4 rfl rfl)
theorem dX0_keysOf_30 : decode cX0_keysOf 30 = .ok (.iconst 0, 1) := dk_3 (dk_at dksX0_keysOf_1 7 rfl rfl)
theorem dX0_keysOf_31 : decode cX0_keysOf 31 = .ok (.iadd, 1) := dk_96 (dk_at dksX0_keysOf_1 8 rfl rfl)
theorem dX0_keysOf_32 : decode cX0_keysOf 32 = .ok (.istore_n 2, 1) := dk_61 (dk_at dksX0_keysOf_1 9 rfl rfl)
theorem dX0_keysOf_33 : decode cX0_keysOf 33 = .ok (.iinc 3 1, 3) := dk_132 3 1 (dk_at dksX0_keysOf_1 10 rfl rfl)
theorem dX0_keysOf_36 : decode cX0_keysOf 36 = .ok (.goto (-32), 3) := dk_167 255 224 (dk_at dksX0_keysOf_1 13 rfl rfl)
theorem dX0_keysOf_39 : decode cX0_keysOf 39 = .ok (.iload_n 2, 1) := dk_28 (dk_at dksX0_keysOf_1 16 rfl rfl)
theorem dX0_keysOf_40 : decode cX0_keysOf 40 = .ok (.ireturn, 1) := dk_172 (dk_at dksX0_keysOf_1 17 rfl rfl)
abbrev cX0_thereOf : ByteArray := prog_1_method_81_code
def yX0_thereOf : MethodName := ⟨RX0, "thereOf", "(I)I"⟩
def dkwX0_thereOf_3 : List UInt8 := [96, 61, 132, 3, 1, 167, 255, 184, 28, 172]
abbrev dktX0_thereOf_3 : List UInt8 := dkwX0_thereOf_3 ++ []
def dkwX0_thereOf_2 : List UInt8 := [16, 8, 160, 0, 21, 29, 6, 162, 0, 16, 42, 180, 0, 72, 29, 50, 198, 0, 7, 4, 167, 0, 4, 3]
abbrev dktX0_thereOf_2 : List UInt8 := dkwX0_thereOf_2 ++ dktX0_thereOf_3
def dkwX0_thereOf_1 : List UInt8 := [199, 0, 43, 27, 16, 7, 160, 0, 17, 29, 7, 162, 0, 12, 42, 180, 0, 38, 29, 50, 199, 0, 23, 27]
abbrev dktX0_thereOf_1 : List UInt8 := dkwX0_thereOf_1 ++ dktX0_thereOf_2
def dkwX0_thereOf_0 : List UInt8 := [3, 61, 3, 62, 29, 16, 6, 162, 0, 72, 28, 27, 16, 6, 160, 0, 12, 42, 180, 0, 32, 29, 50]
abbrev dktX0_thereOf_0 : List UInt8 := dkwX0_thereOf_0 ++ dktX0_thereOf_1
theorem dksX0_thereOf_0 : cX0_thereOf.data.toList.drop 0 = dktX0_thereOf_0 := by decide +kernel
theorem dksX0_thereOf_1 : cX0_thereOf.data.toList.drop 23 = dktX0_thereOf_1 := dk_seg dksX0_thereOf_0 23 rfl rfl
theorem dksX0_thereOf_2 : cX0_thereOf.data.toList.drop 47 = dktX0_thereOf_2 := dk_seg dksX0_thereOf_1 24 rfl rfl
theorem dksX0_thereOf_3 : cX0_thereOf.data.toList.drop 71 = dktX0_thereOf_3 := dk_seg dksX0_thereOf_2 24 rfl rfl
theorem dX0_thereOf_0 : decode cX0_thereOf 0 = .ok (.iconst 0, 1) := dk_3 (dk_at dksX0_thereOf_0 0 rfl rfl)
theorem dX0_thereOf_1 : decode cX0_thereOf 1 = .ok (.istore_n 2, 1) := dk_61 (dk_at dksX0_thereOf_0 1 rfl rfl)
theorem dX0_thereOf_2 : decode cX0_thereOf 2 = .ok (.iconst 0, 1) := dk_3 (dk_at dksX0_thereOf_0 2 rfl rfl)
theorem dX0_thereOf_3 : decode cX0_thereOf 3 = .ok (.istore_n 3, 1) := dk_62 (dk_at dksX0_thereOf_0 3 rfl rfl)
theorem dX0_thereOf_4 : decode cX0_thereOf 4 = .ok (.iload_n 3, 1) := dk_29 (dk_at dksX0_thereOf_0 4 rfl rfl)
theorem dX0_thereOf_5 : decode cX0_thereOf 5 = .ok (.bipush 6, 2) := dk_16 6 (dk_at dksX0_thereOf_0 5 rfl rfl)
theorem dX0_thereOf_7 : decode cX0_thereOf 7 = .ok (.if_icmp .ge 72, 3) := dk_162 0 72 (dk_at dksX0_thereOf_0 7 rfl rfl)
theorem dX0_thereOf_10 : decode cX0_thereOf 10 = .ok (.iload_n 2, 1) := dk_28 (dk_at dksX0_thereOf_0 10 rfl rfl)
theorem dX0_thereOf_11 : decode cX0_thereOf 11 = .ok (.iload_n 1, 1) := dk_27 (dk_at dksX0_thereOf_0 11 rfl rfl)
theorem dX0_thereOf_12 : decode cX0_thereOf 12 = .ok (.bipush 6, 2) := dk_16 6 (dk_at dksX0_thereOf_0 12 rfl rfl)
theorem dX0_thereOf_14 : decode cX0_thereOf 14 = .ok (.if_icmp .ne 12, 3) := dk_160 0 12 (dk_at dksX0_thereOf_0 14 rfl rfl)
theorem dX0_thereOf_17 : decode cX0_thereOf 17 = .ok (.aload_n 0, 1) := dk_42 (dk_at dksX0_thereOf_0 17 rfl rfl)
theorem dX0_thereOf_18 : decode cX0_thereOf 18 = .ok (.getfield 32, 3) := dk_180 0 32 (dk_at dksX0_thereOf_0 18 rfl rfl)
theorem dX0_thereOf_21 : decode cX0_thereOf 21 = .ok (.iload_n 3, 1) := dk_29 (dk_at dksX0_thereOf_0 21 rfl rfl)
theorem dX0_thereOf_22 : decode cX0_thereOf 22 = .ok (.aaload, 1) := dk_50 (dk_at dksX0_thereOf_0 22 rfl rfl)
theorem dX0_thereOf_23 : decode cX0_thereOf 23 = .ok (.ifnonnull 43, 3) := dk_199 0 43 (dk_at dksX0_thereOf_1 0 rfl rfl)
theorem dX0_thereOf_26 : decode cX0_thereOf 26 = .ok (.iload_n 1, 1) := dk_27 (dk_at dksX0_thereOf_1 3 rfl rfl)
theorem dX0_thereOf_27 : decode cX0_thereOf 27 = .ok (.bipush 7, 2) := dk_16 7 (dk_at dksX0_thereOf_1 4 rfl rfl)
theorem dX0_thereOf_29 : decode cX0_thereOf 29 = .ok (.if_icmp .ne 17, 3) := dk_160 0 17 (dk_at dksX0_thereOf_1 6 rfl rfl)
theorem dX0_thereOf_32 : decode cX0_thereOf 32 = .ok (.iload_n 3, 1) := dk_29 (dk_at dksX0_thereOf_1 9 rfl rfl)
theorem dX0_thereOf_33 : decode cX0_thereOf 33 = .ok (.iconst 4, 1) := dk_7 (dk_at dksX0_thereOf_1 10 rfl rfl)
theorem dX0_thereOf_34 : decode cX0_thereOf 34 = .ok (.if_icmp .ge 12, 3) := dk_162 0 12 (dk_at dksX0_thereOf_1 11 rfl rfl)
theorem dX0_thereOf_37 : decode cX0_thereOf 37 = .ok (.aload_n 0, 1) := dk_42 (dk_at dksX0_thereOf_1 14 rfl rfl)
theorem dX0_thereOf_38 : decode cX0_thereOf 38 = .ok (.getfield 38, 3) := dk_180 0 38 (dk_at dksX0_thereOf_1 15 rfl rfl)
theorem dX0_thereOf_41 : decode cX0_thereOf 41 = .ok (.iload_n 3, 1) := dk_29 (dk_at dksX0_thereOf_1 18 rfl rfl)
theorem dX0_thereOf_42 : decode cX0_thereOf 42 = .ok (.aaload, 1) := dk_50 (dk_at dksX0_thereOf_1 19 rfl rfl)
theorem dX0_thereOf_43 : decode cX0_thereOf 43 = .ok (.ifnonnull 23, 3) := dk_199 0 23 (dk_at dksX0_thereOf_1 20 rfl rfl)
theorem dX0_thereOf_46 : decode cX0_thereOf 46 = .ok (.iload_n 1, 1) := dk_27 (dk_at dksX0_thereOf_1 23 rfl rfl)
theorem dX0_thereOf_47 : decode cX0_thereOf 47 = .ok (.bipush 8, 2) := dk_16 8 (dk_at dksX0_thereOf_2 0 rfl rfl)
theorem dX0_thereOf_49 : decode cX0_thereOf 49 = .ok (.if_icmp .ne 21, 3) := dk_160 0 21 (dk_at dksX0_thereOf_2 2 rfl rfl)
theorem dX0_thereOf_52 : decode cX0_thereOf 52 = .ok (.iload_n 3, 1) := dk_29 (dk_at dksX0_thereOf_2 5 rfl rfl)
theorem dX0_thereOf_53 : decode cX0_thereOf 53 = .ok (.iconst 3, 1) := dk_6 (dk_at dksX0_thereOf_2 6 rfl rfl)
theorem dX0_thereOf_54 : decode cX0_thereOf 54 = .ok (.if_icmp .ge 16, 3) := dk_162 0 16 (dk_at dksX0_thereOf_2 7 rfl rfl)
theorem dX0_thereOf_57 : decode cX0_thereOf 57 = .ok (.aload_n 0, 1) := dk_42 (dk_at dksX0_thereOf_2 10 rfl rfl)
theorem dX0_thereOf_58 : decode cX0_thereOf 58 = .ok (.getfield 72, 3) := dk_180 0 72 (dk_at dksX0_thereOf_2 11 rfl rfl)
theorem dX0_thereOf_61 : decode cX0_thereOf 61 = .ok (.iload_n 3, 1) := dk_29 (dk_at dksX0_thereOf_2 14 rfl rfl)
theorem dX0_thereOf_62 : decode cX0_thereOf 62 = .ok (.aaload, 1) := dk_50 (dk_at dksX0_thereOf_2 15 rfl rfl)
theorem dX0_thereOf_63 : decode cX0_thereOf 63 = .ok (.ifnull 7, 3) := dk_198 0 7 (dk_at dksX0_thereOf_2 16 rfl rfl)
theorem dX0_thereOf_66 : decode cX0_thereOf 66 = .ok (.iconst 1, 1) := dk_4 (dk_at dksX0_thereOf_2 19 rfl rfl)
theorem dX0_thereOf_67 : decode cX0_thereOf 67 = .ok (.goto 4, 3) := dk_167 0 4 (dk_at dksX0_thereOf_2 20 rfl rfl)
theorem dX0_thereOf_70 : decode cX0_thereOf 70 = .ok (.iconst 0, 1) := dk_3 (dk_at dksX0_thereOf_2 23 rfl rfl)
theorem dX0_thereOf_71 : decode cX0_thereOf 71 = .ok (.iadd, 1) := dk_96 (dk_at dksX0_thereOf_3 0 rfl rfl)
theorem dX0_thereOf_72 : decode cX0_thereOf 72 = .ok (.istore_n 2, 1) := dk_61 (dk_at dksX0_thereOf_3 1 rfl rfl)
theorem dX0_thereOf_73 : decode cX0_thereOf 73 = .ok (.iinc 3 1, 3) := dk_132 3 1 (dk_at dksX0_thereOf_3 2 rfl rfl)
theorem dX0_thereOf_76 : decode cX0_thereOf 76 = .ok (.goto (-72), 3) := dk_167 255 184 (dk_at dksX0_thereOf_3 5 rfl rfl)
theorem dX0_thereOf_79 : decode cX0_thereOf 79 = .ok (.iload_n 2, 1) := dk_28 (dk_at dksX0_thereOf_3 8 rfl rfl)
theorem dX0_thereOf_80 : decode cX0_thereOf 80 = .ok (.ireturn, 1) := dk_172 (dk_at dksX0_thereOf_3 9 rfl rfl)
abbrev cX0_finding : ByteArray := prog_1_method_84_code
def yX0_finding : MethodName := ⟨RX0, "finding", "()I"⟩
theorem dX0_finding_0 : decode cX0_finding 0 = .ok (.aload_n 0, 1) := by decide +kernel
theorem dX0_finding_1 : decode cX0_finding 1 = .ok (.getfield 1, 3) := by decide +kernel
theorem dX0_finding_4 : decode cX0_finding 4 = .ok (.ireturn, 1) := by decide +kernel
abbrev cX0_findings : ByteArray := prog_1_method_85_code
def yX0_findings : MethodName := ⟨RX0, "findings", "(I)I"⟩
def dkwX0_findings_0 : List UInt8 := [27, 4, 8, 184, 0, 105, 153, 0, 12, 42, 180, 0, 7, 27, 46, 167, 0, 4, 2, 172]
abbrev dktX0_findings_0 : List UInt8 := dkwX0_findings_0 ++ []
theorem dksX0_findings_0 : cX0_findings.data.toList.drop 0 = dktX0_findings_0 := by decide +kernel
theorem dX0_findings_0 : decode cX0_findings 0 = .ok (.iload_n 1, 1) := dk_27 (dk_at dksX0_findings_0 0 rfl rfl)
theorem dX0_findings_1 : decode cX0_findings 1 = .ok (.iconst 1, 1) := dk_4 (dk_at dksX0_findings_0 1 rfl rfl)
theorem dX0_findings_2 : decode cX0_findings 2 = .ok (.iconst 5, 1) := dk_8 (dk_at dksX0_findings_0 2 rfl rfl)
theorem dX0_findings_3 : decode cX0_findings 3 = .ok (.invokestatic 105, 3) := dk_184 0 105 (dk_at dksX0_findings_0 3 rfl rfl)
theorem dX0_findings_6 : decode cX0_findings 6 = .ok (.ifCond .eq 12, 3) := dk_153 0 12 (dk_at dksX0_findings_0 6 rfl rfl)
theorem dX0_findings_9 : decode cX0_findings 9 = .ok (.aload_n 0, 1) := dk_42 (dk_at dksX0_findings_0 9 rfl rfl)
theorem dX0_findings_10 : decode cX0_findings 10 = .ok (.getfield 7, 3) := dk_180 0 7 (dk_at dksX0_findings_0 10 rfl rfl)
theorem dX0_findings_13 : decode cX0_findings 13 = .ok (.iload_n 1, 1) := dk_27 (dk_at dksX0_findings_0 13 rfl rfl)
theorem dX0_findings_14 : decode cX0_findings 14 = .ok (.iaload, 1) := dk_46 (dk_at dksX0_findings_0 14 rfl rfl)
theorem dX0_findings_15 : decode cX0_findings 15 = .ok (.goto 4, 3) := dk_167 0 4 (dk_at dksX0_findings_0 15 rfl rfl)
theorem dX0_findings_18 : decode cX0_findings 18 = .ok (.iconst (-1), 1) := dk_2 (dk_at dksX0_findings_0 18 rfl rfl)
theorem dX0_findings_19 : decode cX0_findings 19 = .ok (.ireturn, 1) := dk_172 (dk_at dksX0_findings_0 19 rfl rfl)
abbrev cX0_digest : ByteArray := prog_1_method_88_code
def yX0_digest : MethodName := ⟨RX0, "digest", "()J"⟩
def dkwX0_digest_7 : List UInt8 := [132, 6, 1, 167, 255, 237, 132, 3, 1, 167, 255, 198, 42, 180, 1, 142, 173]
abbrev dktX0_digest_7 : List UInt8 := dkwX0_digest_7 ++ []
def dkwX0_digest_6 : List UInt8 := [21, 5, 182, 1, 145, 3, 54, 6, 21, 6, 21, 5, 162, 0, 18, 42, 25, 4, 21, 6, 51, 182, 1, 145]
abbrev dktX0_digest_6 : List UInt8 := dkwX0_digest_6 ++ dktX0_digest_7
def dkwX0_digest_5 : List UInt8 := [162, 0, 59, 43, 29, 50, 58, 4, 25, 4, 199, 0, 7, 2, 167, 0, 6, 25, 4, 190, 54, 5, 42]
abbrev dktX0_digest_5 : List UInt8 := dkwX0_digest_5 ++ dktX0_digest_6
def dkwX0_digest_4 : List UInt8 := [132, 6, 1, 167, 255, 237, 132, 3, 1, 167, 255, 198, 42, 180, 0, 38, 76, 43, 190, 61, 3, 62, 29, 28]
abbrev dktX0_digest_4 : List UInt8 := dkwX0_digest_4 ++ dktX0_digest_5
def dkwX0_digest_3 : List UInt8 := [21, 5, 182, 1, 145, 3, 54, 6, 21, 6, 21, 5, 162, 0, 18, 42, 25, 4, 21, 6, 46, 182, 1, 145]
abbrev dktX0_digest_3 : List UInt8 := dkwX0_digest_3 ++ dktX0_digest_4
def dkwX0_digest_2 : List UInt8 := [162, 0, 59, 43, 29, 50, 58, 4, 25, 4, 199, 0, 7, 2, 167, 0, 6, 25, 4, 190, 54, 5, 42]
abbrev dktX0_digest_2 : List UInt8 := dkwX0_digest_2 ++ dktX0_digest_3
def dkwX0_digest_1 : List UInt8 := [132, 1, 1, 167, 255, 238, 42, 182, 1, 151, 42, 180, 0, 32, 76, 43, 190, 61, 3, 62, 29, 28]
abbrev dktX0_digest_1 : List UInt8 := dkwX0_digest_1 ++ dktX0_digest_2
def dkwX0_digest_0 : List UInt8 := [42, 20, 1, 149, 181, 1, 142, 3, 60, 27, 16, 8, 163, 0, 18, 42, 42, 27, 182, 1, 137, 182, 1, 145]
abbrev dktX0_digest_0 : List UInt8 := dkwX0_digest_0 ++ dktX0_digest_1
theorem dksX0_digest_0 : cX0_digest.data.toList.drop 0 = dktX0_digest_0 := by decide +kernel
theorem dksX0_digest_1 : cX0_digest.data.toList.drop 24 = dktX0_digest_1 := dk_seg dksX0_digest_0 24 rfl rfl
theorem dksX0_digest_2 : cX0_digest.data.toList.drop 46 = dktX0_digest_2 := dk_seg dksX0_digest_1 22 rfl rfl
theorem dksX0_digest_3 : cX0_digest.data.toList.drop 69 = dktX0_digest_3 := dk_seg dksX0_digest_2 23 rfl rfl
theorem dksX0_digest_4 : cX0_digest.data.toList.drop 93 = dktX0_digest_4 := dk_seg dksX0_digest_3 24 rfl rfl
theorem dksX0_digest_5 : cX0_digest.data.toList.drop 117 = dktX0_digest_5 := dk_seg dksX0_digest_4 24 rfl rfl
theorem dksX0_digest_6 : cX0_digest.data.toList.drop 140 = dktX0_digest_6 := dk_seg dksX0_digest_5 23 rfl rfl
theorem dksX0_digest_7 : cX0_digest.data.toList.drop 164 = dktX0_digest_7 := dk_seg dksX0_digest_6 24 rfl rfl
theorem dX0_digest_0 : decode cX0_digest 0 = .ok (.aload_n 0, 1) := dk_42 (dk_at dksX0_digest_0 0 rfl rfl)
theorem dX0_digest_1 : decode cX0_digest 1 = .ok (.ldc2_w 405, 3) := dk_20 1 149 (dk_at dksX0_digest_0 1 rfl rfl)
theorem dX0_digest_4 : decode cX0_digest 4 = .ok (.putfield 398, 3) := dk_181 1 142 (dk_at dksX0_digest_0 4 rfl rfl)
theorem dX0_digest_7 : decode cX0_digest 7 = .ok (.iconst 0, 1) := dk_3 (dk_at dksX0_digest_0 7 rfl rfl)
theorem dX0_digest_8 : decode cX0_digest 8 = .ok (.istore_n 1, 1) := dk_60 (dk_at dksX0_digest_0 8 rfl rfl)
theorem dX0_digest_9 : decode cX0_digest 9 = .ok (.iload_n 1, 1) := dk_27 (dk_at dksX0_digest_0 9 rfl rfl)
theorem dX0_digest_10 : decode cX0_digest 10 = .ok (.bipush 8, 2) := dk_16 8 (dk_at dksX0_digest_0 10 rfl rfl)
theorem dX0_digest_12 : decode cX0_digest 12 = .ok (.if_icmp .gt 18, 3) := dk_163 0 18 (dk_at dksX0_digest_0 12 rfl rfl)
theorem dX0_digest_15 : decode cX0_digest 15 = .ok (.aload_n 0, 1) := dk_42 (dk_at dksX0_digest_0 15 rfl rfl)
theorem dX0_digest_16 : decode cX0_digest 16 = .ok (.aload_n 0, 1) := dk_42 (dk_at dksX0_digest_0 16 rfl rfl)
theorem dX0_digest_17 : decode cX0_digest 17 = .ok (.iload_n 1, 1) := dk_27 (dk_at dksX0_digest_0 17 rfl rfl)
theorem dX0_digest_18 : decode cX0_digest 18 = .ok (.invokevirtual 393, 3) := dk_182 1 137 (dk_at dksX0_digest_0 18 rfl rfl)
theorem dX0_digest_21 : decode cX0_digest 21 = .ok (.invokevirtual 401, 3) := dk_182 1 145 (dk_at dksX0_digest_0 21 rfl rfl)
theorem dX0_digest_24 : decode cX0_digest 24 = .ok (.iinc 1 1, 3) := dk_132 1 1 (dk_at dksX0_digest_1 0 rfl rfl)
theorem dX0_digest_27 : decode cX0_digest 27 = .ok (.goto (-18), 3) := dk_167 255 238 (dk_at dksX0_digest_1 3 rfl rfl)
theorem dX0_digest_30 : decode cX0_digest 30 = .ok (.aload_n 0, 1) := dk_42 (dk_at dksX0_digest_1 6 rfl rfl)
theorem dX0_digest_31 : decode cX0_digest 31 = .ok (.invokevirtual 407, 3) := dk_182 1 151 (dk_at dksX0_digest_1 7 rfl rfl)
theorem dX0_digest_34 : decode cX0_digest 34 = .ok (.aload_n 0, 1) := dk_42 (dk_at dksX0_digest_1 10 rfl rfl)
theorem dX0_digest_35 : decode cX0_digest 35 = .ok (.getfield 32, 3) := dk_180 0 32 (dk_at dksX0_digest_1 11 rfl rfl)
theorem dX0_digest_38 : decode cX0_digest 38 = .ok (.astore_n 1, 1) := dk_76 (dk_at dksX0_digest_1 14 rfl rfl)
theorem dX0_digest_39 : decode cX0_digest 39 = .ok (.aload_n 1, 1) := dk_43 (dk_at dksX0_digest_1 15 rfl rfl)
theorem dX0_digest_40 : decode cX0_digest 40 = .ok (.arraylength, 1) := dk_190 (dk_at dksX0_digest_1 16 rfl rfl)
theorem dX0_digest_41 : decode cX0_digest 41 = .ok (.istore_n 2, 1) := dk_61 (dk_at dksX0_digest_1 17 rfl rfl)
theorem dX0_digest_42 : decode cX0_digest 42 = .ok (.iconst 0, 1) := dk_3 (dk_at dksX0_digest_1 18 rfl rfl)
theorem dX0_digest_43 : decode cX0_digest 43 = .ok (.istore_n 3, 1) := dk_62 (dk_at dksX0_digest_1 19 rfl rfl)
theorem dX0_digest_44 : decode cX0_digest 44 = .ok (.iload_n 3, 1) := dk_29 (dk_at dksX0_digest_1 20 rfl rfl)
theorem dX0_digest_45 : decode cX0_digest 45 = .ok (.iload_n 2, 1) := dk_28 (dk_at dksX0_digest_1 21 rfl rfl)
theorem dX0_digest_46 : decode cX0_digest 46 = .ok (.if_icmp .ge 59, 3) := dk_162 0 59 (dk_at dksX0_digest_2 0 rfl rfl)
theorem dX0_digest_49 : decode cX0_digest 49 = .ok (.aload_n 1, 1) := dk_43 (dk_at dksX0_digest_2 3 rfl rfl)
theorem dX0_digest_50 : decode cX0_digest 50 = .ok (.iload_n 3, 1) := dk_29 (dk_at dksX0_digest_2 4 rfl rfl)
theorem dX0_digest_51 : decode cX0_digest 51 = .ok (.aaload, 1) := dk_50 (dk_at dksX0_digest_2 5 rfl rfl)
theorem dX0_digest_52 : decode cX0_digest 52 = .ok (.astore 4, 2) := dk_58 4 (dk_at dksX0_digest_2 6 rfl rfl)
theorem dX0_digest_54 : decode cX0_digest 54 = .ok (.aload 4, 2) := dk_25 4 (dk_at dksX0_digest_2 8 rfl rfl)
theorem dX0_digest_56 : decode cX0_digest 56 = .ok (.ifnonnull 7, 3) := dk_199 0 7 (dk_at dksX0_digest_2 10 rfl rfl)
theorem dX0_digest_59 : decode cX0_digest 59 = .ok (.iconst (-1), 1) := dk_2 (dk_at dksX0_digest_2 13 rfl rfl)
theorem dX0_digest_60 : decode cX0_digest 60 = .ok (.goto 6, 3) := dk_167 0 6 (dk_at dksX0_digest_2 14 rfl rfl)
theorem dX0_digest_63 : decode cX0_digest 63 = .ok (.aload 4, 2) := dk_25 4 (dk_at dksX0_digest_2 17 rfl rfl)
theorem dX0_digest_65 : decode cX0_digest 65 = .ok (.arraylength, 1) := dk_190 (dk_at dksX0_digest_2 19 rfl rfl)
theorem dX0_digest_66 : decode cX0_digest 66 = .ok (.istore 5, 2) := dk_54 5 (dk_at dksX0_digest_2 20 rfl rfl)
theorem dX0_digest_68 : decode cX0_digest 68 = .ok (.aload_n 0, 1) := dk_42 (dk_at dksX0_digest_2 22 rfl rfl)
theorem dX0_digest_69 : decode cX0_digest 69 = .ok (.iload 5, 2) := dk_21 5 (dk_at dksX0_digest_3 0 rfl rfl)
theorem dX0_digest_71 : decode cX0_digest 71 = .ok (.invokevirtual 401, 3) := dk_182 1 145 (dk_at dksX0_digest_3 2 rfl rfl)
theorem dX0_digest_74 : decode cX0_digest 74 = .ok (.iconst 0, 1) := dk_3 (dk_at dksX0_digest_3 5 rfl rfl)
theorem dX0_digest_75 : decode cX0_digest 75 = .ok (.istore 6, 2) := dk_54 6 (dk_at dksX0_digest_3 6 rfl rfl)
theorem dX0_digest_77 : decode cX0_digest 77 = .ok (.iload 6, 2) := dk_21 6 (dk_at dksX0_digest_3 8 rfl rfl)
theorem dX0_digest_79 : decode cX0_digest 79 = .ok (.iload 5, 2) := dk_21 5 (dk_at dksX0_digest_3 10 rfl rfl)
theorem dX0_digest_81 : decode cX0_digest 81 = .ok (.if_icmp .ge 18, 3) := dk_162 0 18 (dk_at dksX0_digest_3 12 rfl rfl)
theorem dX0_digest_84 : decode cX0_digest 84 = .ok (.aload_n 0, 1) := dk_42 (dk_at dksX0_digest_3 15 rfl rfl)
theorem dX0_digest_85 : decode cX0_digest 85 = .ok (.aload 4, 2) := dk_25 4 (dk_at dksX0_digest_3 16 rfl rfl)
theorem dX0_digest_87 : decode cX0_digest 87 = .ok (.iload 6, 2) := dk_21 6 (dk_at dksX0_digest_3 18 rfl rfl)
theorem dX0_digest_89 : decode cX0_digest 89 = .ok (.iaload, 1) := dk_46 (dk_at dksX0_digest_3 20 rfl rfl)
theorem dX0_digest_90 : decode cX0_digest 90 = .ok (.invokevirtual 401, 3) := dk_182 1 145 (dk_at dksX0_digest_3 21 rfl rfl)
theorem dX0_digest_93 : decode cX0_digest 93 = .ok (.iinc 6 1, 3) := dk_132 6 1 (dk_at dksX0_digest_4 0 rfl rfl)
theorem dX0_digest_96 : decode cX0_digest 96 = .ok (.goto (-19), 3) := dk_167 255 237 (dk_at dksX0_digest_4 3 rfl rfl)
theorem dX0_digest_99 : decode cX0_digest 99 = .ok (.iinc 3 1, 3) := dk_132 3 1 (dk_at dksX0_digest_4 6 rfl rfl)
theorem dX0_digest_102 : decode cX0_digest 102 = .ok (.goto (-58), 3) := dk_167 255 198 (dk_at dksX0_digest_4 9 rfl rfl)
theorem dX0_digest_105 : decode cX0_digest 105 = .ok (.aload_n 0, 1) := dk_42 (dk_at dksX0_digest_4 12 rfl rfl)
theorem dX0_digest_106 : decode cX0_digest 106 = .ok (.getfield 38, 3) := dk_180 0 38 (dk_at dksX0_digest_4 13 rfl rfl)
theorem dX0_digest_109 : decode cX0_digest 109 = .ok (.astore_n 1, 1) := dk_76 (dk_at dksX0_digest_4 16 rfl rfl)
theorem dX0_digest_110 : decode cX0_digest 110 = .ok (.aload_n 1, 1) := dk_43 (dk_at dksX0_digest_4 17 rfl rfl)
theorem dX0_digest_111 : decode cX0_digest 111 = .ok (.arraylength, 1) := dk_190 (dk_at dksX0_digest_4 18 rfl rfl)
theorem dX0_digest_112 : decode cX0_digest 112 = .ok (.istore_n 2, 1) := dk_61 (dk_at dksX0_digest_4 19 rfl rfl)
theorem dX0_digest_113 : decode cX0_digest 113 = .ok (.iconst 0, 1) := dk_3 (dk_at dksX0_digest_4 20 rfl rfl)
theorem dX0_digest_114 : decode cX0_digest 114 = .ok (.istore_n 3, 1) := dk_62 (dk_at dksX0_digest_4 21 rfl rfl)
theorem dX0_digest_115 : decode cX0_digest 115 = .ok (.iload_n 3, 1) := dk_29 (dk_at dksX0_digest_4 22 rfl rfl)
theorem dX0_digest_116 : decode cX0_digest 116 = .ok (.iload_n 2, 1) := dk_28 (dk_at dksX0_digest_4 23 rfl rfl)
theorem dX0_digest_117 : decode cX0_digest 117 = .ok (.if_icmp .ge 59, 3) := dk_162 0 59 (dk_at dksX0_digest_5 0 rfl rfl)
theorem dX0_digest_120 : decode cX0_digest 120 = .ok (.aload_n 1, 1) := dk_43 (dk_at dksX0_digest_5 3 rfl rfl)
theorem dX0_digest_121 : decode cX0_digest 121 = .ok (.iload_n 3, 1) := dk_29 (dk_at dksX0_digest_5 4 rfl rfl)
theorem dX0_digest_122 : decode cX0_digest 122 = .ok (.aaload, 1) := dk_50 (dk_at dksX0_digest_5 5 rfl rfl)
theorem dX0_digest_123 : decode cX0_digest 123 = .ok (.astore 4, 2) := dk_58 4 (dk_at dksX0_digest_5 6 rfl rfl)
theorem dX0_digest_125 : decode cX0_digest 125 = .ok (.aload 4, 2) := dk_25 4 (dk_at dksX0_digest_5 8 rfl rfl)
theorem dX0_digest_127 : decode cX0_digest 127 = .ok (.ifnonnull 7, 3) := dk_199 0 7 (dk_at dksX0_digest_5 10 rfl rfl)
theorem dX0_digest_130 : decode cX0_digest 130 = .ok (.iconst (-1), 1) := dk_2 (dk_at dksX0_digest_5 13 rfl rfl)
theorem dX0_digest_131 : decode cX0_digest 131 = .ok (.goto 6, 3) := dk_167 0 6 (dk_at dksX0_digest_5 14 rfl rfl)
theorem dX0_digest_134 : decode cX0_digest 134 = .ok (.aload 4, 2) := dk_25 4 (dk_at dksX0_digest_5 17 rfl rfl)
theorem dX0_digest_136 : decode cX0_digest 136 = .ok (.arraylength, 1) := dk_190 (dk_at dksX0_digest_5 19 rfl rfl)
theorem dX0_digest_137 : decode cX0_digest 137 = .ok (.istore 5, 2) := dk_54 5 (dk_at dksX0_digest_5 20 rfl rfl)
theorem dX0_digest_139 : decode cX0_digest 139 = .ok (.aload_n 0, 1) := dk_42 (dk_at dksX0_digest_5 22 rfl rfl)
theorem dX0_digest_140 : decode cX0_digest 140 = .ok (.iload 5, 2) := dk_21 5 (dk_at dksX0_digest_6 0 rfl rfl)
theorem dX0_digest_142 : decode cX0_digest 142 = .ok (.invokevirtual 401, 3) := dk_182 1 145 (dk_at dksX0_digest_6 2 rfl rfl)
theorem dX0_digest_145 : decode cX0_digest 145 = .ok (.iconst 0, 1) := dk_3 (dk_at dksX0_digest_6 5 rfl rfl)
theorem dX0_digest_146 : decode cX0_digest 146 = .ok (.istore 6, 2) := dk_54 6 (dk_at dksX0_digest_6 6 rfl rfl)
theorem dX0_digest_148 : decode cX0_digest 148 = .ok (.iload 6, 2) := dk_21 6 (dk_at dksX0_digest_6 8 rfl rfl)
theorem dX0_digest_150 : decode cX0_digest 150 = .ok (.iload 5, 2) := dk_21 5 (dk_at dksX0_digest_6 10 rfl rfl)
theorem dX0_digest_152 : decode cX0_digest 152 = .ok (.if_icmp .ge 18, 3) := dk_162 0 18 (dk_at dksX0_digest_6 12 rfl rfl)
theorem dX0_digest_155 : decode cX0_digest 155 = .ok (.aload_n 0, 1) := dk_42 (dk_at dksX0_digest_6 15 rfl rfl)
theorem dX0_digest_156 : decode cX0_digest 156 = .ok (.aload 4, 2) := dk_25 4 (dk_at dksX0_digest_6 16 rfl rfl)
theorem dX0_digest_158 : decode cX0_digest 158 = .ok (.iload 6, 2) := dk_21 6 (dk_at dksX0_digest_6 18 rfl rfl)
theorem dX0_digest_160 : decode cX0_digest 160 = .ok (.baload, 1) := dk_51 (dk_at dksX0_digest_6 20 rfl rfl)
theorem dX0_digest_161 : decode cX0_digest 161 = .ok (.invokevirtual 401, 3) := dk_182 1 145 (dk_at dksX0_digest_6 21 rfl rfl)
theorem dX0_digest_164 : decode cX0_digest 164 = .ok (.iinc 6 1, 3) := dk_132 6 1 (dk_at dksX0_digest_7 0 rfl rfl)
theorem dX0_digest_167 : decode cX0_digest 167 = .ok (.goto (-19), 3) := dk_167 255 237 (dk_at dksX0_digest_7 3 rfl rfl)
theorem dX0_digest_170 : decode cX0_digest 170 = .ok (.iinc 3 1, 3) := dk_132 3 1 (dk_at dksX0_digest_7 6 rfl rfl)
theorem dX0_digest_173 : decode cX0_digest 173 = .ok (.goto (-58), 3) := dk_167 255 198 (dk_at dksX0_digest_7 9 rfl rfl)
theorem dX0_digest_176 : decode cX0_digest 176 = .ok (.aload_n 0, 1) := dk_42 (dk_at dksX0_digest_7 12 rfl rfl)
theorem dX0_digest_177 : decode cX0_digest 177 = .ok (.getfield 398, 3) := dk_180 1 142 (dk_at dksX0_digest_7 13 rfl rfl)
theorem dX0_digest_180 : decode cX0_digest 180 = .ok (.lreturn, 1) := dk_173 (dk_at dksX0_digest_7 16 rfl rfl)
abbrev cX0_mix : ByteArray := prog_1_method_86_code
def yX0_mix : MethodName := ⟨RX0, "mix", "(I)V"⟩
def dkwX0_mix_0 : List UInt8 := [42, 20, 1, 140, 42, 180, 1, 142, 105, 27, 133, 97, 181, 1, 142, 177]
abbrev dktX0_mix_0 : List UInt8 := dkwX0_mix_0 ++ []
theorem dksX0_mix_0 : cX0_mix.data.toList.drop 0 = dktX0_mix_0 := by decide +kernel
theorem dX0_mix_0 : decode cX0_mix 0 = .ok (.aload_n 0, 1) := dk_42 (dk_at dksX0_mix_0 0 rfl rfl)
theorem dX0_mix_1 : decode cX0_mix 1 = .ok (.ldc2_w 396, 3) := dk_20 1 140 (dk_at dksX0_mix_0 1 rfl rfl)
theorem dX0_mix_4 : decode cX0_mix 4 = .ok (.aload_n 0, 1) := dk_42 (dk_at dksX0_mix_0 4 rfl rfl)
theorem dX0_mix_5 : decode cX0_mix 5 = .ok (.getfield 398, 3) := dk_180 1 142 (dk_at dksX0_mix_0 5 rfl rfl)
theorem dX0_mix_8 : decode cX0_mix 8 = .ok (.lmul, 1) := dk_105 (dk_at dksX0_mix_0 8 rfl rfl)
theorem dX0_mix_9 : decode cX0_mix 9 = .ok (.iload_n 1, 1) := dk_27 (dk_at dksX0_mix_0 9 rfl rfl)
theorem dX0_mix_10 : decode cX0_mix 10 = .ok (.i2l, 1) := dk_133 (dk_at dksX0_mix_0 10 rfl rfl)
theorem dX0_mix_11 : decode cX0_mix 11 = .ok (.ladd, 1) := dk_97 (dk_at dksX0_mix_0 11 rfl rfl)
theorem dX0_mix_12 : decode cX0_mix 12 = .ok (.putfield 398, 3) := dk_181 1 142 (dk_at dksX0_mix_0 12 rfl rfl)
theorem dX0_mix_15 : decode cX0_mix 15 = .ok (.return_, 1) := dk_177 (dk_at dksX0_mix_0 15 rfl rfl)
abbrev cX0_mixPiano : ByteArray := prog_1_method_87_code
def yX0_mixPiano : MethodName := ⟨RX0, "mixPiano", "()V"⟩
def dkwX0_mixPiano_3 : List UInt8 := [25, 4, 199, 0, 7, 2, 167, 0, 8, 25, 4, 180, 1, 26, 182, 1, 145, 132, 3, 1, 167, 255, 225, 177]
abbrev dktX0_mixPiano_3 : List UInt8 := dkwX0_mixPiano_3 ++ []
def dkwX0_mixPiano_2 : List UInt8 := [167, 255, 222, 42, 180, 0, 72, 76, 43, 190, 61, 3, 62, 29, 28, 162, 0, 32, 43, 29, 50, 58, 4, 42]
abbrev dktX0_mixPiano_2 : List UInt8 := dkwX0_mixPiano_2 ++ dktX0_mixPiano_3
def dkwX0_mixPiano_1 : List UInt8 := [163, 0, 19, 42, 42, 27, 28, 182, 0, 219, 182, 1, 145, 132, 2, 1, 167, 255, 238, 132, 1, 1]
abbrev dktX0_mixPiano_1 : List UInt8 := dkwX0_mixPiano_1 ++ dktX0_mixPiano_2
def dkwX0_mixPiano_0 : List UInt8 := [42, 42, 180, 0, 102, 182, 1, 145, 3, 60, 27, 42, 180, 0, 191, 162, 0, 32, 3, 61, 28, 7]
abbrev dktX0_mixPiano_0 : List UInt8 := dkwX0_mixPiano_0 ++ dktX0_mixPiano_1
theorem dksX0_mixPiano_0 : cX0_mixPiano.data.toList.drop 0 = dktX0_mixPiano_0 := by decide +kernel
theorem dksX0_mixPiano_1 : cX0_mixPiano.data.toList.drop 22 = dktX0_mixPiano_1 := dk_seg dksX0_mixPiano_0 22 rfl rfl
theorem dksX0_mixPiano_2 : cX0_mixPiano.data.toList.drop 44 = dktX0_mixPiano_2 := dk_seg dksX0_mixPiano_1 22 rfl rfl
theorem dksX0_mixPiano_3 : cX0_mixPiano.data.toList.drop 68 = dktX0_mixPiano_3 := dk_seg dksX0_mixPiano_2 24 rfl rfl
theorem dX0_mixPiano_0 : decode cX0_mixPiano 0 = .ok (.aload_n 0, 1) := dk_42 (dk_at dksX0_mixPiano_0 0 rfl rfl)
theorem dX0_mixPiano_1 : decode cX0_mixPiano 1 = .ok (.aload_n 0, 1) := dk_42 (dk_at dksX0_mixPiano_0 1 rfl rfl)
theorem dX0_mixPiano_2 : decode cX0_mixPiano 2 = .ok (.getfield 102, 3) := dk_180 0 102 (dk_at dksX0_mixPiano_0 2 rfl rfl)
theorem dX0_mixPiano_5 : decode cX0_mixPiano 5 = .ok (.invokevirtual 401, 3) := dk_182 1 145 (dk_at dksX0_mixPiano_0 5 rfl rfl)
theorem dX0_mixPiano_8 : decode cX0_mixPiano 8 = .ok (.iconst 0, 1) := dk_3 (dk_at dksX0_mixPiano_0 8 rfl rfl)
theorem dX0_mixPiano_9 : decode cX0_mixPiano 9 = .ok (.istore_n 1, 1) := dk_60 (dk_at dksX0_mixPiano_0 9 rfl rfl)
theorem dX0_mixPiano_10 : decode cX0_mixPiano 10 = .ok (.iload_n 1, 1) := dk_27 (dk_at dksX0_mixPiano_0 10 rfl rfl)
theorem dX0_mixPiano_11 : decode cX0_mixPiano 11 = .ok (.aload_n 0, 1) := dk_42 (dk_at dksX0_mixPiano_0 11 rfl rfl)
theorem dX0_mixPiano_12 : decode cX0_mixPiano 12 = .ok (.getfield 191, 3) := dk_180 0 191 (dk_at dksX0_mixPiano_0 12 rfl rfl)
theorem dX0_mixPiano_15 : decode cX0_mixPiano 15 = .ok (.if_icmp .ge 32, 3) := dk_162 0 32 (dk_at dksX0_mixPiano_0 15 rfl rfl)
theorem dX0_mixPiano_18 : decode cX0_mixPiano 18 = .ok (.iconst 0, 1) := dk_3 (dk_at dksX0_mixPiano_0 18 rfl rfl)
theorem dX0_mixPiano_19 : decode cX0_mixPiano 19 = .ok (.istore_n 2, 1) := dk_61 (dk_at dksX0_mixPiano_0 19 rfl rfl)
theorem dX0_mixPiano_20 : decode cX0_mixPiano 20 = .ok (.iload_n 2, 1) := dk_28 (dk_at dksX0_mixPiano_0 20 rfl rfl)
theorem dX0_mixPiano_21 : decode cX0_mixPiano 21 = .ok (.iconst 4, 1) := dk_7 (dk_at dksX0_mixPiano_0 21 rfl rfl)
theorem dX0_mixPiano_22 : decode cX0_mixPiano 22 = .ok (.if_icmp .gt 19, 3) := dk_163 0 19 (dk_at dksX0_mixPiano_1 0 rfl rfl)
theorem dX0_mixPiano_25 : decode cX0_mixPiano 25 = .ok (.aload_n 0, 1) := dk_42 (dk_at dksX0_mixPiano_1 3 rfl rfl)
theorem dX0_mixPiano_26 : decode cX0_mixPiano 26 = .ok (.aload_n 0, 1) := dk_42 (dk_at dksX0_mixPiano_1 4 rfl rfl)
theorem dX0_mixPiano_27 : decode cX0_mixPiano 27 = .ok (.iload_n 1, 1) := dk_27 (dk_at dksX0_mixPiano_1 5 rfl rfl)
theorem dX0_mixPiano_28 : decode cX0_mixPiano 28 = .ok (.iload_n 2, 1) := dk_28 (dk_at dksX0_mixPiano_1 6 rfl rfl)
theorem dX0_mixPiano_29 : decode cX0_mixPiano 29 = .ok (.invokevirtual 219, 3) := dk_182 0 219 (dk_at dksX0_mixPiano_1 7 rfl rfl)
theorem dX0_mixPiano_32 : decode cX0_mixPiano 32 = .ok (.invokevirtual 401, 3) := dk_182 1 145 (dk_at dksX0_mixPiano_1 10 rfl rfl)
theorem dX0_mixPiano_35 : decode cX0_mixPiano 35 = .ok (.iinc 2 1, 3) := dk_132 2 1 (dk_at dksX0_mixPiano_1 13 rfl rfl)
theorem dX0_mixPiano_38 : decode cX0_mixPiano 38 = .ok (.goto (-18), 3) := dk_167 255 238 (dk_at dksX0_mixPiano_1 16 rfl rfl)
theorem dX0_mixPiano_41 : decode cX0_mixPiano 41 = .ok (.iinc 1 1, 3) := dk_132 1 1 (dk_at dksX0_mixPiano_1 19 rfl rfl)
theorem dX0_mixPiano_44 : decode cX0_mixPiano 44 = .ok (.goto (-34), 3) := dk_167 255 222 (dk_at dksX0_mixPiano_2 0 rfl rfl)
theorem dX0_mixPiano_47 : decode cX0_mixPiano 47 = .ok (.aload_n 0, 1) := dk_42 (dk_at dksX0_mixPiano_2 3 rfl rfl)
theorem dX0_mixPiano_48 : decode cX0_mixPiano 48 = .ok (.getfield 72, 3) := dk_180 0 72 (dk_at dksX0_mixPiano_2 4 rfl rfl)
theorem dX0_mixPiano_51 : decode cX0_mixPiano 51 = .ok (.astore_n 1, 1) := dk_76 (dk_at dksX0_mixPiano_2 7 rfl rfl)
theorem dX0_mixPiano_52 : decode cX0_mixPiano 52 = .ok (.aload_n 1, 1) := dk_43 (dk_at dksX0_mixPiano_2 8 rfl rfl)
theorem dX0_mixPiano_53 : decode cX0_mixPiano 53 = .ok (.arraylength, 1) := dk_190 (dk_at dksX0_mixPiano_2 9 rfl rfl)
theorem dX0_mixPiano_54 : decode cX0_mixPiano 54 = .ok (.istore_n 2, 1) := dk_61 (dk_at dksX0_mixPiano_2 10 rfl rfl)
theorem dX0_mixPiano_55 : decode cX0_mixPiano 55 = .ok (.iconst 0, 1) := dk_3 (dk_at dksX0_mixPiano_2 11 rfl rfl)
theorem dX0_mixPiano_56 : decode cX0_mixPiano 56 = .ok (.istore_n 3, 1) := dk_62 (dk_at dksX0_mixPiano_2 12 rfl rfl)
theorem dX0_mixPiano_57 : decode cX0_mixPiano 57 = .ok (.iload_n 3, 1) := dk_29 (dk_at dksX0_mixPiano_2 13 rfl rfl)
theorem dX0_mixPiano_58 : decode cX0_mixPiano 58 = .ok (.iload_n 2, 1) := dk_28 (dk_at dksX0_mixPiano_2 14 rfl rfl)
theorem dX0_mixPiano_59 : decode cX0_mixPiano 59 = .ok (.if_icmp .ge 32, 3) := dk_162 0 32 (dk_at dksX0_mixPiano_2 15 rfl rfl)
theorem dX0_mixPiano_62 : decode cX0_mixPiano 62 = .ok (.aload_n 1, 1) := dk_43 (dk_at dksX0_mixPiano_2 18 rfl rfl)
theorem dX0_mixPiano_63 : decode cX0_mixPiano 63 = .ok (.iload_n 3, 1) := dk_29 (dk_at dksX0_mixPiano_2 19 rfl rfl)
theorem dX0_mixPiano_64 : decode cX0_mixPiano 64 = .ok (.aaload, 1) := dk_50 (dk_at dksX0_mixPiano_2 20 rfl rfl)
theorem dX0_mixPiano_65 : decode cX0_mixPiano 65 = .ok (.astore 4, 2) := dk_58 4 (dk_at dksX0_mixPiano_2 21 rfl rfl)
theorem dX0_mixPiano_67 : decode cX0_mixPiano 67 = .ok (.aload_n 0, 1) := dk_42 (dk_at dksX0_mixPiano_2 23 rfl rfl)
theorem dX0_mixPiano_68 : decode cX0_mixPiano 68 = .ok (.aload 4, 2) := dk_25 4 (dk_at dksX0_mixPiano_3 0 rfl rfl)
theorem dX0_mixPiano_70 : decode cX0_mixPiano 70 = .ok (.ifnonnull 7, 3) := dk_199 0 7 (dk_at dksX0_mixPiano_3 2 rfl rfl)
theorem dX0_mixPiano_73 : decode cX0_mixPiano 73 = .ok (.iconst (-1), 1) := dk_2 (dk_at dksX0_mixPiano_3 5 rfl rfl)
theorem dX0_mixPiano_74 : decode cX0_mixPiano 74 = .ok (.goto 8, 3) := dk_167 0 8 (dk_at dksX0_mixPiano_3 6 rfl rfl)
theorem dX0_mixPiano_77 : decode cX0_mixPiano 77 = .ok (.aload 4, 2) := dk_25 4 (dk_at dksX0_mixPiano_3 9 rfl rfl)
theorem dX0_mixPiano_79 : decode cX0_mixPiano 79 = .ok (.getfield 282, 3) := dk_180 1 26 (dk_at dksX0_mixPiano_3 11 rfl rfl)
theorem dX0_mixPiano_82 : decode cX0_mixPiano 82 = .ok (.invokevirtual 401, 3) := dk_182 1 145 (dk_at dksX0_mixPiano_3 14 rfl rfl)
theorem dX0_mixPiano_85 : decode cX0_mixPiano 85 = .ok (.iinc 3 1, 3) := dk_132 3 1 (dk_at dksX0_mixPiano_3 17 rfl rfl)
theorem dX0_mixPiano_88 : decode cX0_mixPiano 88 = .ok (.goto (-31), 3) := dk_167 255 225 (dk_at dksX0_mixPiano_3 20 rfl rfl)
theorem dX0_mixPiano_91 : decode cX0_mixPiano 91 = .ok (.return_, 1) := dk_177 (dk_at dksX0_mixPiano_3 23 rfl rfl)
theorem q82 : (Jvm.Cond.initialized "SandPiano") ∈ lw_all := lw_g (lw_at lw_m1 1 rfl) rfl
theorem q106 : (Jvm.Cond.instantiable "SandPiano" (36 : Nat)) ∈ lw_all := lw_g (lw_at lw_m1 25 rfl) rfl
theorem q108 : (Jvm.Cond.instanceMethod ({ cls := "SandPiano", name := "<init>", desc := "()V" } : Jvm.MethodName)) ∈ lw_all := lw_g (lw_at lw_m1 27 rfl) rfl
theorem q109 : (Jvm.Cond.code ({ cls := "SandPiano", name := "<init>", desc := "()V" } : Jvm.MethodName) prog_1_method_7_code (1 : Nat) (Option.none : Option Jvm.ClassFile.FieldType)) ∈ lw_all := lw_g (lw_at lw_m1 28 rfl) rfl
theorem q110 : (Jvm.Cond.methodLink "SandPiano" (25 : Nat) ({ cls := "java/lang/Object", name := "<init>", desc := "()V" } : Jvm.MethodName)) ∈ lw_all := lw_g (lw_at lw_m1 29 rfl) rfl
theorem q113 : (Jvm.Cond.classLink "SandPiano" (31 : Nat) "[I") ∈ lw_all := lw_g (lw_at lw_m1 32 rfl) rfl
theorem q115 : (Jvm.Cond.classLink "SandPiano" (36 : Nat) "[B") ∈ lw_all := lw_g (lw_at lw_m1 34 rfl) rfl
theorem q117 : (Jvm.Cond.classLink "SandPiano" (42 : Nat) "SandPiano$Key") ∈ lw_all := lw_g (lw_at lw_m1 36 rfl) rfl
theorem q119 : (Jvm.Cond.classLink "SandPiano" (48 : Nat) "SandPiano$Sands") ∈ lw_all := lw_g (lw_at lw_m1 38 rfl) rfl
theorem q121 : (Jvm.Cond.methodLinkNest "SandPiano" (50 : Nat) ({ cls := "SandPiano$Sands", name := "<init>", desc := "()V" } : Jvm.MethodName) "SandPiano") ∈ lw_tbl := lw_at lw_m1 40 rfl
theorem q130 : (Jvm.Cond.fieldLinkNest "SandPiano" (194 : Nat) "SandPiano$Sands" "at" "[I" "SandPiano") ∈ lw_tbl := lw_at lw_m1 49 rfl
theorem q135 : (Jvm.Cond.classLink "SandPiano" (70 : Nat) "SandPiano$Kept") ∈ lw_all := lw_g (lw_at lw_m1 54 rfl) rfl
theorem q137 : (Jvm.Cond.methodLink "SandPiano" (85 : Nat) ({ cls := "SandPiano", name := "newDepth", desc := "()[LSandPiano$Sands;" } : Jvm.MethodName)) ∈ lw_all := lw_g (lw_at lw_m1 56 rfl) rfl
theorem q138 : (Jvm.Cond.static ({ cls := "SandPiano", name := "newDepth", desc := "()[LSandPiano$Sands;" } : Jvm.MethodName)) ∈ lw_all := lw_g (lw_at lw_m1 57 rfl) rfl
theorem q139 : (Jvm.Cond.code ({ cls := "SandPiano", name := "newDepth", desc := "()[LSandPiano$Sands;" } : Jvm.MethodName) prog_1_method_56_code (2 : Nat) (Option.some (Jvm.ClassFile.FieldType.array (Jvm.ClassFile.FieldType.object "SandPiano$Sands")))) ∈ lw_all := lw_g (lw_at lw_m1 58 rfl) rfl
theorem q141 : (Jvm.Cond.fieldLink "SandPiano" (1 : Nat) "SandPiano" "finding" "I") ∈ lw_all := lw_g (lw_at lw_m1 60 rfl) rfl
theorem q142 : (Jvm.Cond.fieldLink "SandPiano" (7 : Nat) "SandPiano" "findings" "[I") ∈ lw_all := lw_g (lw_at lw_m1 61 rfl) rfl
theorem q143 : (Jvm.Cond.fieldLink "SandPiano" (11 : Nat) "SandPiano" "asked" "I") ∈ lw_all := lw_g (lw_at lw_m1 62 rfl) rfl
theorem q144 : (Jvm.Cond.fieldLink "SandPiano" (18 : Nat) "SandPiano" "upper" "J") ∈ lw_all := lw_g (lw_at lw_m1 63 rfl) rfl
theorem q145 : (Jvm.Cond.fieldLink "SandPiano" (22 : Nat) "SandPiano" "lower" "J") ∈ lw_all := lw_g (lw_at lw_m1 64 rfl) rfl
theorem q146 : (Jvm.Cond.fieldLink "SandPiano" (32 : Nat) "SandPiano" "rows" "[[I") ∈ lw_all := lw_g (lw_at lw_m1 65 rfl) rfl
theorem q147 : (Jvm.Cond.fieldLink "SandPiano" (38 : Nat) "SandPiano" "texts" "[[B") ∈ lw_all := lw_g (lw_at lw_m1 66 rfl) rfl
theorem q149 : (Jvm.Cond.fieldLink "SandPiano" (191 : Nat) "SandPiano" "many" "I") ∈ lw_all := lw_g (lw_at lw_m1 68 rfl) rfl
theorem q150 : (Jvm.Cond.fieldLink "SandPiano" (102 : Nat) "SandPiano" "spade" "I") ∈ lw_all := lw_g (lw_at lw_m1 69 rfl) rfl
theorem q151 : (Jvm.Cond.fieldLink "SandPiano" (44 : Nat) "SandPiano" "keys" "[LSandPiano$Key;") ∈ lw_all := lw_g (lw_at lw_m1 70 rfl) rfl
theorem q152 : (Jvm.Cond.fieldLink "SandPiano" (51 : Nat) "SandPiano" "sands" "LSandPiano$Sands;") ∈ lw_all := lw_g (lw_at lw_m1 71 rfl) rfl
theorem q153 : (Jvm.Cond.fieldLink "SandPiano" (164 : Nat) "SandPiano" "reading" "[B") ∈ lw_all := lw_g (lw_at lw_m1 72 rfl) rfl
theorem q154 : (Jvm.Cond.fieldLink "SandPiano" (161 : Nat) "SandPiano" "readAt" "I") ∈ lw_all := lw_g (lw_at lw_m1 73 rfl) rfl
theorem q155 : (Jvm.Cond.fieldLink "SandPiano" (174 : Nat) "SandPiano" "readSpade" "I") ∈ lw_all := lw_g (lw_at lw_m1 74 rfl) rfl
theorem q156 : (Jvm.Cond.fieldLink "SandPiano" (177 : Nat) "SandPiano" "readMany" "I") ∈ lw_all := lw_g (lw_at lw_m1 75 rfl) rfl
theorem q157 : (Jvm.Cond.fieldLink "SandPiano" (55 : Nat) "SandPiano" "readKinds" "[I") ∈ lw_all := lw_g (lw_at lw_m1 76 rfl) rfl
theorem q158 : (Jvm.Cond.fieldLink "SandPiano" (58 : Nat) "SandPiano" "readStrengths" "[I") ∈ lw_all := lw_g (lw_at lw_m1 77 rfl) rfl
theorem q159 : (Jvm.Cond.fieldLink "SandPiano" (61 : Nat) "SandPiano" "readSands" "[I") ∈ lw_all := lw_g (lw_at lw_m1 78 rfl) rfl
theorem q160 : (Jvm.Cond.fieldLink "SandPiano" (64 : Nat) "SandPiano" "readPays" "[I") ∈ lw_all := lw_g (lw_at lw_m1 79 rfl) rfl
theorem q161 : (Jvm.Cond.fieldLink "SandPiano" (200 : Nat) "SandPiano" "deedMany" "I") ∈ lw_all := lw_g (lw_at lw_m1 80 rfl) rfl
theorem q162 : (Jvm.Cond.fieldLink "SandPiano" (67 : Nat) "SandPiano" "ahead" "[I") ∈ lw_all := lw_g (lw_at lw_m1 81 rfl) rfl
theorem q163 : (Jvm.Cond.fieldLink "SandPiano" (72 : Nat) "SandPiano" "kept" "[LSandPiano$Kept;") ∈ lw_all := lw_g (lw_at lw_m1 82 rfl) rfl
theorem q164 : (Jvm.Cond.fieldLink "SandPiano" (76 : Nat) "SandPiano" "aside" "LSandPiano$Sands;") ∈ lw_all := lw_g (lw_at lw_m1 83 rfl) rfl
theorem q165 : (Jvm.Cond.fieldLink "SandPiano" (79 : Nat) "SandPiano" "other" "LSandPiano$Sands;") ∈ lw_all := lw_g (lw_at lw_m1 84 rfl) rfl
theorem q166 : (Jvm.Cond.fieldLink "SandPiano" (82 : Nat) "SandPiano" "dug" "[I") ∈ lw_all := lw_g (lw_at lw_m1 85 rfl) rfl
theorem q167 : (Jvm.Cond.fieldLink "SandPiano" (89 : Nat) "SandPiano" "depth" "[LSandPiano$Sands;") ∈ lw_all := lw_g (lw_at lw_m1 86 rfl) rfl
theorem q168 : (Jvm.Cond.fieldLink "SandPiano" (93 : Nat) "SandPiano" "notes" "[I") ∈ lw_all := lw_g (lw_at lw_m1 87 rfl) rfl
theorem q169 : (Jvm.Cond.fieldLink "SandPiano" (96 : Nat) "SandPiano" "bestNotes" "[I") ∈ lw_all := lw_g (lw_at lw_m1 88 rfl) rfl
theorem q170 : (Jvm.Cond.fieldLink "SandPiano" (299 : Nat) "SandPiano" "bestMany" "I") ∈ lw_all := lw_g (lw_at lw_m1 89 rfl) rfl
theorem q171 : (Jvm.Cond.fieldLink "SandPiano" (313 : Nat) "SandPiano" "bestPay" "I") ∈ lw_all := lw_g (lw_at lw_m1 90 rfl) rfl
theorem q172 : (Jvm.Cond.fieldLink "SandPiano" (99 : Nat) "SandPiano" "left" "[I") ∈ lw_all := lw_g (lw_at lw_m1 91 rfl) rfl
theorem q173 : (Jvm.Cond.fieldLink "SandPiano" (319 : Nat) "SandPiano" "leftMany" "I") ∈ lw_all := lw_g (lw_at lw_m1 92 rfl) rfl
theorem q174 : (Jvm.Cond.fieldLink "SandPiano" (322 : Nat) "SandPiano" "rowMany" "I") ∈ lw_all := lw_g (lw_at lw_m1 93 rfl) rfl
theorem q175 : (Jvm.Cond.fieldLink "SandPiano" (334 : Nat) "SandPiano" "backMany" "I") ∈ lw_all := lw_g (lw_at lw_m1 94 rfl) rfl
theorem q176 : (Jvm.Cond.fieldLink "SandPiano" (369 : Nat) "SandPiano" "betSum" "J") ∈ lw_all := lw_g (lw_at lw_m1 95 rfl) rfl
theorem q177 : (Jvm.Cond.fieldLink "SandPiano" (398 : Nat) "SandPiano" "h0" "J") ∈ lw_all := lw_g (lw_at lw_m1 96 rfl) rfl
theorem q178 : (Jvm.Cond.lays "SandPiano" "SandPiano" "finding" "I") ∈ lw_all := lw_g (lw_at lw_m1 97 rfl) rfl
theorem q179 : (Jvm.Cond.soleField "SandPiano" "finding") ∈ lw_all := lw_g (lw_at lw_m1 98 rfl) rfl
theorem q180 : (Jvm.Cond.laysFinal "SandPiano" "SandPiano" "findings" "[I") ∈ lw_all := lw_g (lw_at lw_m1 99 rfl) rfl
theorem q181 : (Jvm.Cond.soleField "SandPiano" "findings") ∈ lw_all := lw_g (lw_at lw_m1 100 rfl) rfl
theorem q182 : (Jvm.Cond.lays "SandPiano" "SandPiano" "asked" "I") ∈ lw_all := lw_g (lw_at lw_m1 101 rfl) rfl
theorem q183 : (Jvm.Cond.soleField "SandPiano" "asked") ∈ lw_all := lw_g (lw_at lw_m1 102 rfl) rfl
theorem q184 : (Jvm.Cond.lays "SandPiano" "SandPiano" "upper" "J") ∈ lw_all := lw_g (lw_at lw_m1 103 rfl) rfl
theorem q185 : (Jvm.Cond.soleField "SandPiano" "upper") ∈ lw_all := lw_g (lw_at lw_m1 104 rfl) rfl
theorem q186 : (Jvm.Cond.lays "SandPiano" "SandPiano" "lower" "J") ∈ lw_all := lw_g (lw_at lw_m1 105 rfl) rfl
theorem q187 : (Jvm.Cond.soleField "SandPiano" "lower") ∈ lw_all := lw_g (lw_at lw_m1 106 rfl) rfl
theorem q188 : (Jvm.Cond.laysFinal "SandPiano" "SandPiano" "rows" "[[I") ∈ lw_all := lw_g (lw_at lw_m1 107 rfl) rfl
theorem q189 : (Jvm.Cond.soleField "SandPiano" "rows") ∈ lw_all := lw_g (lw_at lw_m1 108 rfl) rfl
theorem q190 : (Jvm.Cond.laysFinal "SandPiano" "SandPiano" "texts" "[[B") ∈ lw_all := lw_g (lw_at lw_m1 109 rfl) rfl
theorem q191 : (Jvm.Cond.soleField "SandPiano" "texts") ∈ lw_all := lw_g (lw_at lw_m1 110 rfl) rfl
theorem q192 : (Jvm.Cond.lays "SandPiano" "SandPiano" "many" "I") ∈ lw_all := lw_g (lw_at lw_m1 111 rfl) rfl
theorem q193 : (Jvm.Cond.soleField "SandPiano" "many") ∈ lw_all := lw_g (lw_at lw_m1 112 rfl) rfl
theorem q194 : (Jvm.Cond.lays "SandPiano" "SandPiano" "spade" "I") ∈ lw_all := lw_g (lw_at lw_m1 113 rfl) rfl
theorem q195 : (Jvm.Cond.soleField "SandPiano" "spade") ∈ lw_all := lw_g (lw_at lw_m1 114 rfl) rfl
theorem q196 : (Jvm.Cond.laysFinal "SandPiano" "SandPiano" "keys" "[LSandPiano$Key;") ∈ lw_all := lw_g (lw_at lw_m1 115 rfl) rfl
theorem q197 : (Jvm.Cond.soleField "SandPiano" "keys") ∈ lw_all := lw_g (lw_at lw_m1 116 rfl) rfl
theorem q198 : (Jvm.Cond.laysFinal "SandPiano" "SandPiano" "sands" "LSandPiano$Sands;") ∈ lw_all := lw_g (lw_at lw_m1 117 rfl) rfl
theorem q199 : (Jvm.Cond.soleField "SandPiano" "sands") ∈ lw_all := lw_g (lw_at lw_m1 118 rfl) rfl
theorem q200 : (Jvm.Cond.lays "SandPiano" "SandPiano" "reading" "[B") ∈ lw_all := lw_g (lw_at lw_m1 119 rfl) rfl
theorem q201 : (Jvm.Cond.soleField "SandPiano" "reading") ∈ lw_all := lw_g (lw_at lw_m1 120 rfl) rfl
theorem q202 : (Jvm.Cond.lays "SandPiano" "SandPiano" "readAt" "I") ∈ lw_all := lw_g (lw_at lw_m1 121 rfl) rfl
theorem q203 : (Jvm.Cond.soleField "SandPiano" "readAt") ∈ lw_all := lw_g (lw_at lw_m1 122 rfl) rfl
theorem q204 : (Jvm.Cond.lays "SandPiano" "SandPiano" "readSpade" "I") ∈ lw_all := lw_g (lw_at lw_m1 123 rfl) rfl
theorem q205 : (Jvm.Cond.soleField "SandPiano" "readSpade") ∈ lw_all := lw_g (lw_at lw_m1 124 rfl) rfl
theorem q206 : (Jvm.Cond.lays "SandPiano" "SandPiano" "readMany" "I") ∈ lw_all := lw_g (lw_at lw_m1 125 rfl) rfl
theorem q207 : (Jvm.Cond.soleField "SandPiano" "readMany") ∈ lw_all := lw_g (lw_at lw_m1 126 rfl) rfl
theorem q208 : (Jvm.Cond.laysFinal "SandPiano" "SandPiano" "readKinds" "[I") ∈ lw_all := lw_g (lw_at lw_m1 127 rfl) rfl
theorem q209 : (Jvm.Cond.soleField "SandPiano" "readKinds") ∈ lw_all := lw_g (lw_at lw_m1 128 rfl) rfl
theorem q210 : (Jvm.Cond.laysFinal "SandPiano" "SandPiano" "readStrengths" "[I") ∈ lw_all := lw_g (lw_at lw_m1 129 rfl) rfl
theorem q211 : (Jvm.Cond.soleField "SandPiano" "readStrengths") ∈ lw_all := lw_g (lw_at lw_m1 130 rfl) rfl
theorem q212 : (Jvm.Cond.laysFinal "SandPiano" "SandPiano" "readSands" "[I") ∈ lw_all := lw_g (lw_at lw_m1 131 rfl) rfl
theorem q213 : (Jvm.Cond.soleField "SandPiano" "readSands") ∈ lw_all := lw_g (lw_at lw_m1 132 rfl) rfl
theorem q214 : (Jvm.Cond.laysFinal "SandPiano" "SandPiano" "readPays" "[I") ∈ lw_all := lw_g (lw_at lw_m1 133 rfl) rfl
theorem q215 : (Jvm.Cond.soleField "SandPiano" "readPays") ∈ lw_all := lw_g (lw_at lw_m1 134 rfl) rfl
theorem q216 : (Jvm.Cond.lays "SandPiano" "SandPiano" "deedMany" "I") ∈ lw_all := lw_g (lw_at lw_m1 135 rfl) rfl
theorem q217 : (Jvm.Cond.soleField "SandPiano" "deedMany") ∈ lw_all := lw_g (lw_at lw_m1 136 rfl) rfl
theorem q218 : (Jvm.Cond.laysFinal "SandPiano" "SandPiano" "ahead" "[I") ∈ lw_all := lw_g (lw_at lw_m1 137 rfl) rfl
theorem q219 : (Jvm.Cond.soleField "SandPiano" "ahead") ∈ lw_all := lw_g (lw_at lw_m1 138 rfl) rfl
theorem q220 : (Jvm.Cond.laysFinal "SandPiano" "SandPiano" "kept" "[LSandPiano$Kept;") ∈ lw_all := lw_g (lw_at lw_m1 139 rfl) rfl
theorem q221 : (Jvm.Cond.soleField "SandPiano" "kept") ∈ lw_all := lw_g (lw_at lw_m1 140 rfl) rfl
theorem q222 : (Jvm.Cond.laysFinal "SandPiano" "SandPiano" "aside" "LSandPiano$Sands;") ∈ lw_all := lw_g (lw_at lw_m1 141 rfl) rfl
theorem q223 : (Jvm.Cond.soleField "SandPiano" "aside") ∈ lw_all := lw_g (lw_at lw_m1 142 rfl) rfl
theorem q224 : (Jvm.Cond.laysFinal "SandPiano" "SandPiano" "other" "LSandPiano$Sands;") ∈ lw_all := lw_g (lw_at lw_m1 143 rfl) rfl
theorem q225 : (Jvm.Cond.soleField "SandPiano" "other") ∈ lw_all := lw_g (lw_at lw_m1 144 rfl) rfl
theorem q226 : (Jvm.Cond.laysFinal "SandPiano" "SandPiano" "dug" "[I") ∈ lw_all := lw_g (lw_at lw_m1 145 rfl) rfl
theorem q227 : (Jvm.Cond.soleField "SandPiano" "dug") ∈ lw_all := lw_g (lw_at lw_m1 146 rfl) rfl
theorem q228 : (Jvm.Cond.laysFinal "SandPiano" "SandPiano" "depth" "[LSandPiano$Sands;") ∈ lw_all := lw_g (lw_at lw_m1 147 rfl) rfl
theorem q229 : (Jvm.Cond.soleField "SandPiano" "depth") ∈ lw_all := lw_g (lw_at lw_m1 148 rfl) rfl
theorem q230 : (Jvm.Cond.laysFinal "SandPiano" "SandPiano" "notes" "[I") ∈ lw_all := lw_g (lw_at lw_m1 149 rfl) rfl
theorem q231 : (Jvm.Cond.soleField "SandPiano" "notes") ∈ lw_all := lw_g (lw_at lw_m1 150 rfl) rfl
theorem q232 : (Jvm.Cond.laysFinal "SandPiano" "SandPiano" "bestNotes" "[I") ∈ lw_all := lw_g (lw_at lw_m1 151 rfl) rfl
theorem q233 : (Jvm.Cond.soleField "SandPiano" "bestNotes") ∈ lw_all := lw_g (lw_at lw_m1 152 rfl) rfl
theorem q234 : (Jvm.Cond.lays "SandPiano" "SandPiano" "bestMany" "I") ∈ lw_all := lw_g (lw_at lw_m1 153 rfl) rfl
theorem q235 : (Jvm.Cond.soleField "SandPiano" "bestMany") ∈ lw_all := lw_g (lw_at lw_m1 154 rfl) rfl
theorem q236 : (Jvm.Cond.lays "SandPiano" "SandPiano" "bestPay" "I") ∈ lw_all := lw_g (lw_at lw_m1 155 rfl) rfl
theorem q237 : (Jvm.Cond.soleField "SandPiano" "bestPay") ∈ lw_all := lw_g (lw_at lw_m1 156 rfl) rfl
theorem q238 : (Jvm.Cond.laysFinal "SandPiano" "SandPiano" "left" "[I") ∈ lw_all := lw_g (lw_at lw_m1 157 rfl) rfl
theorem q239 : (Jvm.Cond.soleField "SandPiano" "left") ∈ lw_all := lw_g (lw_at lw_m1 158 rfl) rfl
theorem q240 : (Jvm.Cond.lays "SandPiano" "SandPiano" "leftMany" "I") ∈ lw_all := lw_g (lw_at lw_m1 159 rfl) rfl
theorem q241 : (Jvm.Cond.soleField "SandPiano" "leftMany") ∈ lw_all := lw_g (lw_at lw_m1 160 rfl) rfl
theorem q242 : (Jvm.Cond.lays "SandPiano" "SandPiano" "rowMany" "I") ∈ lw_all := lw_g (lw_at lw_m1 161 rfl) rfl
theorem q243 : (Jvm.Cond.soleField "SandPiano" "rowMany") ∈ lw_all := lw_g (lw_at lw_m1 162 rfl) rfl
theorem q244 : (Jvm.Cond.lays "SandPiano" "SandPiano" "backMany" "I") ∈ lw_all := lw_g (lw_at lw_m1 163 rfl) rfl
theorem q245 : (Jvm.Cond.soleField "SandPiano" "backMany") ∈ lw_all := lw_g (lw_at lw_m1 164 rfl) rfl
theorem q246 : (Jvm.Cond.lays "SandPiano" "SandPiano" "betSum" "J") ∈ lw_all := lw_g (lw_at lw_m1 165 rfl) rfl
theorem q247 : (Jvm.Cond.soleField "SandPiano" "betSum") ∈ lw_all := lw_g (lw_at lw_m1 166 rfl) rfl
theorem q248 : (Jvm.Cond.lays "SandPiano" "SandPiano" "h0" "J") ∈ lw_all := lw_g (lw_at lw_m1 167 rfl) rfl
theorem q249 : (Jvm.Cond.soleField "SandPiano" "h0") ∈ lw_all := lw_g (lw_at lw_m1 168 rfl) rfl
theorem q250 : (Jvm.Cond.superclass "SandPiano" "java/lang/Object") ∈ lw_all := lw_g (lw_at lw_m1 169 rfl) rfl
theorem q252 : (Jvm.Cond.instanceMethod ({ cls := "SandPiano", name := "row", desc := "(II)I" } : Jvm.MethodName)) ∈ lw_all := lw_g (lw_at lw_m1 171 rfl) rfl
theorem q253 : (Jvm.Cond.selects "SandPiano" ({ cls := "SandPiano", name := "row", desc := "(II)I" } : Jvm.MethodName) ({ cls := "SandPiano", name := "row", desc := "(II)I" } : Jvm.MethodName)) ∈ lw_all := lw_g (lw_at lw_m1 172 rfl) rfl
theorem q254 : (Jvm.Cond.codeWith ({ cls := "SandPiano", name := "row", desc := "(II)I" } : Jvm.MethodName) prog_1_method_10_code (4 : Nat) (Option.some Jvm.ClassFile.FieldType.int) [((15 : Nat), (25 : Nat), (26 : Nat), (113 : Nat))]) ∈ lw_all := lw_g (lw_at lw_m1 173 rfl) rfl
theorem q255 : (Jvm.Cond.classLink "SandPiano" (113 : Nat) "java/lang/NegativeArraySizeException") ∈ lw_all := lw_g (lw_at lw_m1 174 rfl) rfl
theorem q341 : (Jvm.Cond.methodLink "SandPiano" (109 : Nat) ({ cls := "SandPiano", name := "isRow", desc := "(I)Z" } : Jvm.MethodName)) ∈ lw_all := lw_g (lw_at lw_m2 20 rfl) rfl
theorem q342 : (Jvm.Cond.static ({ cls := "SandPiano", name := "isRow", desc := "(I)Z" } : Jvm.MethodName)) ∈ lw_all := lw_g (lw_at lw_m2 21 rfl) rfl
theorem q343 : (Jvm.Cond.code ({ cls := "SandPiano", name := "isRow", desc := "(I)Z" } : Jvm.MethodName) prog_1_method_8_code (1 : Nat) (Option.some Jvm.ClassFile.FieldType.boolean)) ∈ lw_all := lw_g (lw_at lw_m2 22 rfl) rfl
theorem q344 : (Jvm.Cond.methodLink "SandPiano" (105 : Nat) ({ cls := "SandPiano", name := "isIn", desc := "(III)Z" } : Jvm.MethodName)) ∈ lw_all := lw_g (lw_at lw_m2 23 rfl) rfl
theorem q345 : (Jvm.Cond.static ({ cls := "SandPiano", name := "isIn", desc := "(III)Z" } : Jvm.MethodName)) ∈ lw_all := lw_g (lw_at lw_m2 24 rfl) rfl
theorem q346 : (Jvm.Cond.code ({ cls := "SandPiano", name := "isIn", desc := "(III)Z" } : Jvm.MethodName) prog_1_method_1_code (3 : Nat) (Option.some Jvm.ClassFile.FieldType.boolean)) ∈ lw_all := lw_g (lw_at lw_m2 25 rfl) rfl
theorem q347 : (Jvm.Cond.methodLink "SandPiano" (115 : Nat) ({ cls := "SandPiano", name := "found", desc := "(I)I" } : Jvm.MethodName)) ∈ lw_all := lw_g (lw_at lw_m2 26 rfl) rfl
theorem q348 : (Jvm.Cond.privateMethod ({ cls := "SandPiano", name := "found", desc := "(I)I" } : Jvm.MethodName)) ∈ lw_tbl := lw_at lw_m2 27 rfl
theorem q349 : (Jvm.Cond.instanceMethod ({ cls := "SandPiano", name := "found", desc := "(I)I" } : Jvm.MethodName)) ∈ lw_all := lw_g (lw_at lw_m2 28 rfl) rfl
theorem q350 : (Jvm.Cond.code ({ cls := "SandPiano", name := "found", desc := "(I)I" } : Jvm.MethodName) prog_1_method_3_code (2 : Nat) (Option.some Jvm.ClassFile.FieldType.int)) ∈ lw_all := lw_g (lw_at lw_m2 29 rfl) rfl
theorem q352 : (Jvm.Cond.instanceMethod ({ cls := "SandPiano", name := "lay", desc := "(III)I" } : Jvm.MethodName)) ∈ lw_all := lw_g (lw_at lw_m2 31 rfl) rfl
theorem q353 : (Jvm.Cond.selects "SandPiano" ({ cls := "SandPiano", name := "lay", desc := "(III)I" } : Jvm.MethodName) ({ cls := "SandPiano", name := "lay", desc := "(III)I" } : Jvm.MethodName)) ∈ lw_all := lw_g (lw_at lw_m2 32 rfl) rfl
theorem q354 : (Jvm.Cond.code ({ cls := "SandPiano", name := "lay", desc := "(III)I" } : Jvm.MethodName) prog_1_method_11_code (5 : Nat) (Option.some Jvm.ClassFile.FieldType.int)) ∈ lw_all := lw_g (lw_at lw_m2 33 rfl) rfl
theorem q355 : (Jvm.Cond.methodLink "SandPiano" (119 : Nat) ({ cls := "SandPiano", name := "at", desc := "(II)I" } : Jvm.MethodName)) ∈ lw_all := lw_g (lw_at lw_m2 34 rfl) rfl
theorem q356 : (Jvm.Cond.instanceMethod ({ cls := "SandPiano", name := "at", desc := "(II)I" } : Jvm.MethodName)) ∈ lw_all := lw_g (lw_at lw_m2 35 rfl) rfl
theorem q357 : (Jvm.Cond.selects "SandPiano" ({ cls := "SandPiano", name := "at", desc := "(II)I" } : Jvm.MethodName) ({ cls := "SandPiano", name := "at", desc := "(II)I" } : Jvm.MethodName)) ∈ lw_all := lw_g (lw_at lw_m2 36 rfl) rfl
theorem q358 : (Jvm.Cond.codeWith ({ cls := "SandPiano", name := "at", desc := "(II)I" } : Jvm.MethodName) prog_1_method_12_code (4 : Nat) (Option.some Jvm.ClassFile.FieldType.int) [((9 : Nat), (22 : Nat), (23 : Nat), (126 : Nat)), ((9 : Nat), (22 : Nat), (30 : Nat), (128 : Nat))]) ∈ lw_all := lw_g (lw_at lw_m2 37 rfl) rfl
theorem q359 : (Jvm.Cond.classLink "SandPiano" (126 : Nat) "java/lang/NullPointerException") ∈ lw_all := lw_g (lw_at lw_m2 38 rfl) rfl
theorem q384 : (Jvm.Cond.classLink "SandPiano" (128 : Nat) "java/lang/ArrayIndexOutOfBoundsException") ∈ lw_all := lw_g (lw_at lw_m2 63 rfl) rfl
theorem q403 : (Jvm.Cond.methodLink "SandPiano" (123 : Nat) ({ cls := "SandPiano", name := "ask", desc := "(II)I" } : Jvm.MethodName)) ∈ lw_all := lw_g (lw_at lw_m2 82 rfl) rfl
theorem q404 : (Jvm.Cond.privateMethod ({ cls := "SandPiano", name := "ask", desc := "(II)I" } : Jvm.MethodName)) ∈ lw_tbl := lw_at lw_m2 83 rfl
theorem q405 : (Jvm.Cond.instanceMethod ({ cls := "SandPiano", name := "ask", desc := "(II)I" } : Jvm.MethodName)) ∈ lw_all := lw_g (lw_at lw_m2 84 rfl) rfl
theorem q406 : (Jvm.Cond.code ({ cls := "SandPiano", name := "ask", desc := "(II)I" } : Jvm.MethodName) prog_1_method_4_code (3 : Nat) (Option.some Jvm.ClassFile.FieldType.int)) ∈ lw_all := lw_g (lw_at lw_m2 85 rfl) rfl
theorem q409 : (Jvm.Cond.instanceMethod ({ cls := "SandPiano", name := "tear", desc := "(I)I" } : Jvm.MethodName)) ∈ lw_all := lw_g (lw_at lw_m2 88 rfl) rfl
theorem q410 : (Jvm.Cond.selects "SandPiano" ({ cls := "SandPiano", name := "tear", desc := "(I)I" } : Jvm.MethodName) ({ cls := "SandPiano", name := "tear", desc := "(I)I" } : Jvm.MethodName)) ∈ lw_all := lw_g (lw_at lw_m2 89 rfl) rfl
theorem q411 : (Jvm.Cond.code ({ cls := "SandPiano", name := "tear", desc := "(I)I" } : Jvm.MethodName) prog_1_method_13_code (2 : Nat) (Option.some Jvm.ClassFile.FieldType.int)) ∈ lw_all := lw_g (lw_at lw_m2 90 rfl) rfl
theorem q413 : (Jvm.Cond.instanceMethod ({ cls := "SandPiano", name := "copy", desc := "(IIIII)I" } : Jvm.MethodName)) ∈ lw_all := lw_g (lw_at lw_m2 92 rfl) rfl
theorem q414 : (Jvm.Cond.selects "SandPiano" ({ cls := "SandPiano", name := "copy", desc := "(IIIII)I" } : Jvm.MethodName) ({ cls := "SandPiano", name := "copy", desc := "(IIIII)I" } : Jvm.MethodName)) ∈ lw_all := lw_g (lw_at lw_m2 93 rfl) rfl
theorem q415 : (Jvm.Cond.codeWith ({ cls := "SandPiano", name := "copy", desc := "(IIIII)I" } : Jvm.MethodName) prog_1_method_14_code (7 : Nat) (Option.some Jvm.ClassFile.FieldType.int) [((27 : Nat), (48 : Nat), (49 : Nat), (126 : Nat)), ((27 : Nat), (48 : Nat), (57 : Nat), (136 : Nat))]) ∈ lw_all := lw_g (lw_at lw_m2 94 rfl) rfl
theorem q416 : (Jvm.Cond.classLink "SandPiano" (136 : Nat) "java/lang/IndexOutOfBoundsException") ∈ lw_all := lw_g (lw_at lw_m2 95 rfl) rfl
theorem q417 : (Jvm.Cond.methodLink "SandPiano" (130 : Nat) ({ cls := "java/lang/System", name := "arraycopy", desc := "(Ljava/lang/Object;ILjava/lang/Object;II)V" } : Jvm.MethodName)) ∈ lw_all := lw_g (lw_at lw_m2 96 rfl) rfl
theorem q421 : (Jvm.Cond.instanceMethod ({ cls := "SandPiano", name := "mean", desc := "(I)I" } : Jvm.MethodName)) ∈ lw_all := lw_g (lw_at lw_m2 100 rfl) rfl
theorem q422 : (Jvm.Cond.selects "SandPiano" ({ cls := "SandPiano", name := "mean", desc := "(I)I" } : Jvm.MethodName) ({ cls := "SandPiano", name := "mean", desc := "(I)I" } : Jvm.MethodName)) ∈ lw_all := lw_g (lw_at lw_m2 101 rfl) rfl
theorem q423 : (Jvm.Cond.codeWith ({ cls := "SandPiano", name := "mean", desc := "(I)I" } : Jvm.MethodName) prog_1_method_15_code (8 : Nat) (Option.some Jvm.ClassFile.FieldType.int) [((9 : Nat), (69 : Nat), (70 : Nat), (126 : Nat)), ((9 : Nat), (69 : Nat), (77 : Nat), (138 : Nat))]) ∈ lw_all := lw_g (lw_at lw_m2 102 rfl) rfl
theorem q424 : (Jvm.Cond.classLink "SandPiano" (138 : Nat) "java/lang/ArithmeticException") ∈ lw_all := lw_g (lw_at lw_m2 103 rfl) rfl
theorem q439 : (Jvm.Cond.instanceMethod ({ cls := "SandPiano", name := "text", desc := "(II)I" } : Jvm.MethodName)) ∈ lw_all := lw_g (lw_at lw_m2 118 rfl) rfl
theorem q440 : (Jvm.Cond.selects "SandPiano" ({ cls := "SandPiano", name := "text", desc := "(II)I" } : Jvm.MethodName) ({ cls := "SandPiano", name := "text", desc := "(II)I" } : Jvm.MethodName)) ∈ lw_all := lw_g (lw_at lw_m2 119 rfl) rfl
theorem q441 : (Jvm.Cond.codeWith ({ cls := "SandPiano", name := "text", desc := "(II)I" } : Jvm.MethodName) prog_1_method_16_code (5 : Nat) (Option.some Jvm.ClassFile.FieldType.int) [((15 : Nat), (48 : Nat), (49 : Nat), (113 : Nat))]) ∈ lw_all := lw_g (lw_at lw_m2 120 rfl) rfl
theorem q442 : (Jvm.Cond.methodLink "SandPiano" (140 : Nat) ({ cls := "SandPiano", name := "isText", desc := "(I)Z" } : Jvm.MethodName)) ∈ lw_all := lw_g (lw_at lw_m2 121 rfl) rfl
theorem q443 : (Jvm.Cond.static ({ cls := "SandPiano", name := "isText", desc := "(I)Z" } : Jvm.MethodName)) ∈ lw_all := lw_g (lw_at lw_m2 122 rfl) rfl
theorem q444 : (Jvm.Cond.code ({ cls := "SandPiano", name := "isText", desc := "(I)Z" } : Jvm.MethodName) prog_1_method_9_code (1 : Nat) (Option.some Jvm.ClassFile.FieldType.boolean)) ∈ lw_all := lw_g (lw_at lw_m2 123 rfl) rfl
theorem q446 : (Jvm.Cond.instanceMethod ({ cls := "SandPiano", name := "put", desc := "(III)I" } : Jvm.MethodName)) ∈ lw_all := lw_g (lw_at lw_m2 125 rfl) rfl
theorem q447 : (Jvm.Cond.selects "SandPiano" ({ cls := "SandPiano", name := "put", desc := "(III)I" } : Jvm.MethodName) ({ cls := "SandPiano", name := "put", desc := "(III)I" } : Jvm.MethodName)) ∈ lw_all := lw_g (lw_at lw_m2 126 rfl) rfl
theorem q448 : (Jvm.Cond.codeWith ({ cls := "SandPiano", name := "put", desc := "(III)I" } : Jvm.MethodName) prog_1_method_17_code (5 : Nat) (Option.some Jvm.ClassFile.FieldType.int) [((9 : Nat), (35 : Nat), (36 : Nat), (126 : Nat)), ((9 : Nat), (35 : Nat), (44 : Nat), (128 : Nat))]) ∈ lw_all := lw_g (lw_at lw_m2 127 rfl) rfl
theorem q450 : (Jvm.Cond.instanceMethod ({ cls := "SandPiano", name := "fault", desc := "(I)I" } : Jvm.MethodName)) ∈ lw_all := lw_g (lw_at lw_m2 129 rfl) rfl
theorem q451 : (Jvm.Cond.selects "SandPiano" ({ cls := "SandPiano", name := "fault", desc := "(I)I" } : Jvm.MethodName) ({ cls := "SandPiano", name := "fault", desc := "(I)I" } : Jvm.MethodName)) ∈ lw_all := lw_g (lw_at lw_m2 130 rfl) rfl
theorem q452 : (Jvm.Cond.code ({ cls := "SandPiano", name := "fault", desc := "(I)I" } : Jvm.MethodName) prog_1_method_24_code (2 : Nat) (Option.some Jvm.ClassFile.FieldType.int)) ∈ lw_all := lw_g (lw_at lw_m2 131 rfl) rfl
theorem q453 : (Jvm.Cond.methodLink "SandPiano" (187 : Nat) ({ cls := "SandPiano", name := "goesOn", desc := "([B)I" } : Jvm.MethodName)) ∈ lw_all := lw_g (lw_at lw_m2 132 rfl) rfl
theorem q454 : (Jvm.Cond.privateMethod ({ cls := "SandPiano", name := "goesOn", desc := "([B)I" } : Jvm.MethodName)) ∈ lw_tbl := lw_at lw_m2 133 rfl
theorem q455 : (Jvm.Cond.instanceMethod ({ cls := "SandPiano", name := "goesOn", desc := "([B)I" } : Jvm.MethodName)) ∈ lw_all := lw_g (lw_at lw_m2 134 rfl) rfl
theorem q456 : (Jvm.Cond.code ({ cls := "SandPiano", name := "goesOn", desc := "([B)I" } : Jvm.MethodName) prog_1_method_23_code (2 : Nat) (Option.some Jvm.ClassFile.FieldType.int)) ∈ lw_all := lw_g (lw_at lw_m2 135 rfl) rfl
theorem q457 : (Jvm.Cond.methodLink "SandPiano" (167 : Nat) ({ cls := "SandPiano", name := "here", desc := "()I" } : Jvm.MethodName)) ∈ lw_all := lw_g (lw_at lw_m2 136 rfl) rfl
theorem q458 : (Jvm.Cond.privateMethod ({ cls := "SandPiano", name := "here", desc := "()I" } : Jvm.MethodName)) ∈ lw_tbl := lw_at lw_m2 137 rfl
theorem q459 : (Jvm.Cond.instanceMethod ({ cls := "SandPiano", name := "here", desc := "()I" } : Jvm.MethodName)) ∈ lw_all := lw_g (lw_at lw_m2 138 rfl) rfl
theorem q460 : (Jvm.Cond.code ({ cls := "SandPiano", name := "here", desc := "()I" } : Jvm.MethodName) prog_1_method_19_code (1 : Nat) (Option.some Jvm.ClassFile.FieldType.int)) ∈ lw_all := lw_g (lw_at lw_m2 139 rfl) rfl
theorem q461 : (Jvm.Cond.methodLink "SandPiano" (180 : Nat) ({ cls := "SandPiano", name := "readsHead", desc := "()Z" } : Jvm.MethodName)) ∈ lw_all := lw_g (lw_at lw_m2 140 rfl) rfl
theorem q462 : (Jvm.Cond.privateMethod ({ cls := "SandPiano", name := "readsHead", desc := "()Z" } : Jvm.MethodName)) ∈ lw_tbl := lw_at lw_m2 141 rfl
theorem q463 : (Jvm.Cond.instanceMethod ({ cls := "SandPiano", name := "readsHead", desc := "()Z" } : Jvm.MethodName)) ∈ lw_all := lw_g (lw_at lw_m2 142 rfl) rfl
theorem q464 : (Jvm.Cond.code ({ cls := "SandPiano", name := "readsHead", desc := "()Z" } : Jvm.MethodName) prog_1_method_21_code (2 : Nat) (Option.some Jvm.ClassFile.FieldType.boolean)) ∈ lw_all := lw_g (lw_at lw_m2 143 rfl) rfl
theorem q465 : (Jvm.Cond.methodLink "SandPiano" (171 : Nat) ({ cls := "SandPiano", name := "readsFigure", desc := "(I)I" } : Jvm.MethodName)) ∈ lw_all := lw_g (lw_at lw_m2 144 rfl) rfl
theorem q466 : (Jvm.Cond.privateMethod ({ cls := "SandPiano", name := "readsFigure", desc := "(I)I" } : Jvm.MethodName)) ∈ lw_tbl := lw_at lw_m2 145 rfl
theorem q467 : (Jvm.Cond.instanceMethod ({ cls := "SandPiano", name := "readsFigure", desc := "(I)I" } : Jvm.MethodName)) ∈ lw_all := lw_g (lw_at lw_m2 146 rfl) rfl
theorem q468 : (Jvm.Cond.code ({ cls := "SandPiano", name := "readsFigure", desc := "(I)I" } : Jvm.MethodName) prog_1_method_20_code (3 : Nat) (Option.some Jvm.ClassFile.FieldType.int)) ∈ lw_all := lw_g (lw_at lw_m2 147 rfl) rfl
theorem q469 : (Jvm.Cond.methodLink "SandPiano" (184 : Nat) ({ cls := "SandPiano", name := "readsKey", desc := "()Z" } : Jvm.MethodName)) ∈ lw_all := lw_g (lw_at lw_m2 148 rfl) rfl
theorem q470 : (Jvm.Cond.privateMethod ({ cls := "SandPiano", name := "readsKey", desc := "()Z" } : Jvm.MethodName)) ∈ lw_tbl := lw_at lw_m2 149 rfl
theorem q471 : (Jvm.Cond.instanceMethod ({ cls := "SandPiano", name := "readsKey", desc := "()Z" } : Jvm.MethodName)) ∈ lw_all := lw_g (lw_at lw_m2 150 rfl) rfl
theorem q472 : (Jvm.Cond.code ({ cls := "SandPiano", name := "readsKey", desc := "()Z" } : Jvm.MethodName) prog_1_method_22_code (7 : Nat) (Option.some Jvm.ClassFile.FieldType.boolean)) ∈ lw_all := lw_g (lw_at lw_m2 151 rfl) rfl
theorem q474 : (Jvm.Cond.instanceMethod ({ cls := "SandPiano", name := "piano", desc := "(I)I" } : Jvm.MethodName)) ∈ lw_all := lw_g (lw_at lw_m2 153 rfl) rfl
theorem q475 : (Jvm.Cond.selects "SandPiano" ({ cls := "SandPiano", name := "piano", desc := "(I)I" } : Jvm.MethodName) ({ cls := "SandPiano", name := "piano", desc := "(I)I" } : Jvm.MethodName)) ∈ lw_all := lw_g (lw_at lw_m2 154 rfl) rfl
theorem q476 : (Jvm.Cond.code ({ cls := "SandPiano", name := "piano", desc := "(I)I" } : Jvm.MethodName) prog_1_method_25_code (3 : Nat) (Option.some Jvm.ClassFile.FieldType.int)) ∈ lw_all := lw_g (lw_at lw_m2 155 rfl) rfl
theorem q477 : (Jvm.Cond.methodLink "SandPiano" (196 : Nat) ({ cls := "SandPiano", name := "newKey", desc := "(IIII)LSandPiano$Key;" } : Jvm.MethodName)) ∈ lw_all := lw_g (lw_at lw_m2 156 rfl) rfl
theorem q478 : (Jvm.Cond.static ({ cls := "SandPiano", name := "newKey", desc := "(IIII)LSandPiano$Key;" } : Jvm.MethodName)) ∈ lw_all := lw_g (lw_at lw_m2 157 rfl) rfl
theorem q479 : (Jvm.Cond.code ({ cls := "SandPiano", name := "newKey", desc := "(IIII)LSandPiano$Key;" } : Jvm.MethodName) prog_1_method_18_code (4 : Nat) (Option.some (Jvm.ClassFile.FieldType.object "SandPiano$Key"))) ∈ lw_all := lw_g (lw_at lw_m2 158 rfl) rfl
theorem q480 : (Jvm.Cond.classLink "SandPiano" (143 : Nat) "SandPiano$Bass") ∈ lw_all := lw_g (lw_at lw_m2 159 rfl) rfl
theorem q482 : (Jvm.Cond.methodLink "SandPiano" (145 : Nat) ({ cls := "SandPiano$Bass", name := "<init>", desc := "(III)V" } : Jvm.MethodName)) ∈ lw_all := lw_g (lw_at lw_m2 161 rfl) rfl
theorem q499 : (Jvm.Cond.classLink "SandPiano" (148 : Nat) "SandPiano$Shell") ∈ lw_all := lw_g (lw_at lw_m2 178 rfl) rfl
theorem q501 : (Jvm.Cond.methodLink "SandPiano" (150 : Nat) ({ cls := "SandPiano$Shell", name := "<init>", desc := "(III)V" } : Jvm.MethodName)) ∈ lw_all := lw_g (lw_at lw_m2 180 rfl) rfl
theorem q509 : (Jvm.Cond.classLink "SandPiano" (151 : Nat) "SandPiano$Crab") ∈ lw_all := lw_g (lw_at lw_m2 188 rfl) rfl
theorem q511 : (Jvm.Cond.methodLink "SandPiano" (153 : Nat) ({ cls := "SandPiano$Crab", name := "<init>", desc := "(III)V" } : Jvm.MethodName)) ∈ lw_all := lw_g (lw_at lw_m2 190 rfl) rfl
theorem q519 : (Jvm.Cond.classLink "SandPiano" (154 : Nat) "SandPiano$Drum") ∈ lw_all := lw_g (lw_at lw_m2 198 rfl) rfl
theorem q521 : (Jvm.Cond.methodLink "SandPiano" (156 : Nat) ({ cls := "SandPiano$Drum", name := "<init>", desc := "(III)V" } : Jvm.MethodName)) ∈ lw_all := lw_g (lw_at lw_m2 200 rfl) rfl
theorem q529 : (Jvm.Cond.classLink "SandPiano" (157 : Nat) "SandPiano$Ring") ∈ lw_all := lw_g (lw_at lw_m2 208 rfl) rfl
theorem q531 : (Jvm.Cond.methodLink "SandPiano" (159 : Nat) ({ cls := "SandPiano$Ring", name := "<init>", desc := "(III)V" } : Jvm.MethodName)) ∈ lw_all := lw_g (lw_at lw_m2 210 rfl) rfl
theorem q540 : (Jvm.Cond.methodLink "SandPiano" (160 : Nat) ({ cls := "SandPiano$Key", name := "<init>", desc := "(III)V" } : Jvm.MethodName)) ∈ lw_all := lw_g (lw_at lw_m2 219 rfl) rfl
theorem q546 : (Jvm.Cond.instanceMethod ({ cls := "SandPiano", name := "key", desc := "(II)I" } : Jvm.MethodName)) ∈ lw_all := lw_g (lw_at lw_m2 225 rfl) rfl
theorem q547 : (Jvm.Cond.selects "SandPiano" ({ cls := "SandPiano", name := "key", desc := "(II)I" } : Jvm.MethodName) ({ cls := "SandPiano", name := "key", desc := "(II)I" } : Jvm.MethodName)) ∈ lw_all := lw_g (lw_at lw_m2 226 rfl) rfl
theorem q548 : (Jvm.Cond.code ({ cls := "SandPiano", name := "key", desc := "(II)I" } : Jvm.MethodName) prog_1_method_28_code (3 : Nat) (Option.some Jvm.ClassFile.FieldType.int)) ∈ lw_all := lw_g (lw_at lw_m2 227 rfl) rfl
theorem q549 : (Jvm.Cond.methodLink "SandPiano" (216 : Nat) ({ cls := "SandPiano", name := "isKey", desc := "(I)Z" } : Jvm.MethodName)) ∈ lw_all := lw_g (lw_at lw_m2 228 rfl) rfl
theorem q550 : (Jvm.Cond.privateMethod ({ cls := "SandPiano", name := "isKey", desc := "(I)Z" } : Jvm.MethodName)) ∈ lw_tbl := lw_at lw_m2 229 rfl
theorem q551 : (Jvm.Cond.instanceMethod ({ cls := "SandPiano", name := "isKey", desc := "(I)Z" } : Jvm.MethodName)) ∈ lw_all := lw_g (lw_at lw_m2 230 rfl) rfl
theorem q552 : (Jvm.Cond.code ({ cls := "SandPiano", name := "isKey", desc := "(I)Z" } : Jvm.MethodName) prog_1_method_26_code (2 : Nat) (Option.some Jvm.ClassFile.FieldType.boolean)) ∈ lw_all := lw_g (lw_at lw_m2 231 rfl) rfl
theorem q553 : (Jvm.Cond.methodLink "SandPiano" (219 : Nat) ({ cls := "SandPiano", name := "keyTells", desc := "(II)I" } : Jvm.MethodName)) ∈ lw_all := lw_g (lw_at lw_m2 232 rfl) rfl
theorem q554 : (Jvm.Cond.privateMethod ({ cls := "SandPiano", name := "keyTells", desc := "(II)I" } : Jvm.MethodName)) ∈ lw_tbl := lw_at lw_m2 233 rfl
theorem q555 : (Jvm.Cond.instanceMethod ({ cls := "SandPiano", name := "keyTells", desc := "(II)I" } : Jvm.MethodName)) ∈ lw_all := lw_g (lw_at lw_m2 234 rfl) rfl
theorem q556 : (Jvm.Cond.code ({ cls := "SandPiano", name := "keyTells", desc := "(II)I" } : Jvm.MethodName) prog_1_method_27_code (4 : Nat) (Option.some Jvm.ClassFile.FieldType.int)) ∈ lw_all := lw_g (lw_at lw_m2 235 rfl) rfl
theorem q557 : (Jvm.Cond.methodLink "SandPiano" (203 : Nat) ({ cls := "SandPiano$Key", name := "kind", desc := "()I" } : Jvm.MethodName)) ∈ lw_all := lw_g (lw_at lw_m2 236 rfl) rfl
theorem q577 : (Jvm.Cond.methodLink "SandPiano" (206 : Nat) ({ cls := "SandPiano$Key", name := "strength", desc := "()I" } : Jvm.MethodName)) ∈ lw_all := lw_g (lw_at lw_m3 16 rfl) rfl
theorem q587 : (Jvm.Cond.methodLink "SandPiano" (209 : Nat) ({ cls := "SandPiano$Key", name := "pay", desc := "()I" } : Jvm.MethodName)) ∈ lw_all := lw_g (lw_at lw_m3 26 rfl) rfl
theorem q597 : (Jvm.Cond.methodLink "SandPiano" (212 : Nat) ({ cls := "SandPiano$Key", name := "plays", desc := "(LSandPiano$Sands;)Z" } : Jvm.MethodName)) ∈ lw_all := lw_g (lw_at lw_m3 36 rfl) rfl
theorem q624 : (Jvm.Cond.instanceMethod ({ cls := "SandPiano", name := "mark", desc := "(II)I" } : Jvm.MethodName)) ∈ lw_all := lw_g (lw_at lw_m3 63 rfl) rfl
theorem q625 : (Jvm.Cond.selects "SandPiano" ({ cls := "SandPiano", name := "mark", desc := "(II)I" } : Jvm.MethodName) ({ cls := "SandPiano", name := "mark", desc := "(II)I" } : Jvm.MethodName)) ∈ lw_all := lw_g (lw_at lw_m3 64 rfl) rfl
theorem q626 : (Jvm.Cond.codeWith ({ cls := "SandPiano", name := "mark", desc := "(II)I" } : Jvm.MethodName) prog_1_method_29_code (5 : Nat) (Option.some Jvm.ClassFile.FieldType.int) [((26 : Nat), (67 : Nat), (109 : Nat), (239 : Nat)), ((68 : Nat), (79 : Nat), (109 : Nat), (239 : Nat)), ((80 : Nat), (91 : Nat), (109 : Nat), (239 : Nat)), ((92 : Nat), (99 : Nat), (109 : Nat), (239 : Nat)), ((100 : Nat), (108 : Nat), (109 : Nat), (239 : Nat))]) ∈ lw_all := lw_g (lw_at lw_m3 65 rfl) rfl
theorem q627 : (Jvm.Cond.classLink "SandPiano" (239 : Nat) "java/lang/ClassCastException") ∈ lw_all := lw_g (lw_at lw_m3 66 rfl) rfl
theorem q641 : (Jvm.Cond.methodLink "SandPiano" (222 : Nat) ({ cls := "SandPiano$Bass", name := "throwsNow", desc := "(LSandPiano$Sands;)I" } : Jvm.MethodName)) ∈ lw_all := lw_g (lw_at lw_m3 80 rfl) rfl
theorem q657 : (Jvm.Cond.methodLink "SandPiano" (226 : Nat) ({ cls := "SandPiano$Shell", name := "above", desc := "(LSandPiano$Sands;)I" } : Jvm.MethodName)) ∈ lw_all := lw_g (lw_at lw_m3 96 rfl) rfl
theorem q675 : (Jvm.Cond.methodLink "SandPiano" (229 : Nat) ({ cls := "SandPiano$Crab", name := "carries", desc := "(LSandPiano$Sands;)I" } : Jvm.MethodName)) ∈ lw_all := lw_g (lw_at lw_m3 114 rfl) rfl
theorem q685 : (Jvm.Cond.methodLink "SandPiano" (232 : Nat) ({ cls := "SandPiano$Drum", name := "before", desc := "()I" } : Jvm.MethodName)) ∈ lw_all := lw_g (lw_at lw_m3 124 rfl) rfl
theorem q692 : (Jvm.Cond.methodLink "SandPiano" (235 : Nat) ({ cls := "SandPiano$Ring", name := "silent", desc := "(LSandPiano;)I" } : Jvm.MethodName)) ∈ lw_all := lw_g (lw_at lw_m3 131 rfl) rfl
theorem q697 : (Jvm.Cond.privateMethod ({ cls := "SandPiano", name := "playable", desc := "()I" } : Jvm.MethodName)) ∈ lw_tbl := lw_at lw_m3 136 rfl
theorem q698 : (Jvm.Cond.instanceMethod ({ cls := "SandPiano", name := "playable", desc := "()I" } : Jvm.MethodName)) ∈ lw_all := lw_g (lw_at lw_m3 137 rfl) rfl
theorem q699 : (Jvm.Cond.code ({ cls := "SandPiano", name := "playable", desc := "()I" } : Jvm.MethodName) prog_1_method_34_code (1 : Nat) (Option.some Jvm.ClassFile.FieldType.int)) ∈ lw_all := lw_g (lw_at lw_m3 138 rfl) rfl
theorem q700 : (Jvm.Cond.methodLink "SandPiano" (245 : Nat) ({ cls := "SandPiano", name := "playableIn", desc := "(LSandPiano$Sands;)I" } : Jvm.MethodName)) ∈ lw_all := lw_g (lw_at lw_m3 139 rfl) rfl
theorem q701 : (Jvm.Cond.privateMethod ({ cls := "SandPiano", name := "playableIn", desc := "(LSandPiano$Sands;)I" } : Jvm.MethodName)) ∈ lw_tbl := lw_at lw_m3 140 rfl
theorem q702 : (Jvm.Cond.instanceMethod ({ cls := "SandPiano", name := "playableIn", desc := "(LSandPiano$Sands;)I" } : Jvm.MethodName)) ∈ lw_all := lw_g (lw_at lw_m3 141 rfl) rfl
theorem q703 : (Jvm.Cond.code ({ cls := "SandPiano", name := "playableIn", desc := "(LSandPiano$Sands;)I" } : Jvm.MethodName) prog_1_method_33_code (4 : Nat) (Option.some Jvm.ClassFile.FieldType.int)) ∈ lw_all := lw_g (lw_at lw_m3 142 rfl) rfl
theorem q711 : (Jvm.Cond.instanceMethod ({ cls := "SandPiano", name := "spade", desc := "(I)I" } : Jvm.MethodName)) ∈ lw_all := lw_g (lw_at lw_m3 150 rfl) rfl
theorem q712 : (Jvm.Cond.selects "SandPiano" ({ cls := "SandPiano", name := "spade", desc := "(I)I" } : Jvm.MethodName) ({ cls := "SandPiano", name := "spade", desc := "(I)I" } : Jvm.MethodName)) ∈ lw_all := lw_g (lw_at lw_m3 151 rfl) rfl
theorem q713 : (Jvm.Cond.code ({ cls := "SandPiano", name := "spade", desc := "(I)I" } : Jvm.MethodName) prog_1_method_30_code (3 : Nat) (Option.some Jvm.ClassFile.FieldType.int)) ∈ lw_all := lw_g (lw_at lw_m3 152 rfl) rfl
theorem q715 : (Jvm.Cond.instanceMethod ({ cls := "SandPiano", name := "play", desc := "(I)I" } : Jvm.MethodName)) ∈ lw_all := lw_g (lw_at lw_m3 154 rfl) rfl
theorem q716 : (Jvm.Cond.selects "SandPiano" ({ cls := "SandPiano", name := "play", desc := "(I)I" } : Jvm.MethodName) ({ cls := "SandPiano", name := "play", desc := "(I)I" } : Jvm.MethodName)) ∈ lw_all := lw_g (lw_at lw_m3 155 rfl) rfl
theorem q717 : (Jvm.Cond.code ({ cls := "SandPiano", name := "play", desc := "(I)I" } : Jvm.MethodName) prog_1_method_35_code (2 : Nat) (Option.some Jvm.ClassFile.FieldType.int)) ∈ lw_all := lw_g (lw_at lw_m3 156 rfl) rfl
theorem q718 : (Jvm.Cond.methodLink "SandPiano" (248 : Nat) ({ cls := "SandPiano", name := "note", desc := "()V" } : Jvm.MethodName)) ∈ lw_all := lw_g (lw_at lw_m3 157 rfl) rfl
theorem q719 : (Jvm.Cond.privateMethod ({ cls := "SandPiano", name := "note", desc := "()V" } : Jvm.MethodName)) ∈ lw_tbl := lw_at lw_m3 158 rfl
theorem q720 : (Jvm.Cond.instanceMethod ({ cls := "SandPiano", name := "note", desc := "()V" } : Jvm.MethodName)) ∈ lw_all := lw_g (lw_at lw_m3 159 rfl) rfl
theorem q721 : (Jvm.Cond.code ({ cls := "SandPiano", name := "note", desc := "()V" } : Jvm.MethodName) prog_1_method_31_code (1 : Nat) (Option.none : Option Jvm.ClassFile.FieldType)) ∈ lw_all := lw_g (lw_at lw_m3 160 rfl) rfl
theorem q722 : (Jvm.Cond.methodLink "SandPiano" (251 : Nat) ({ cls := "SandPiano", name := "playIn", desc := "(LSandPiano$Sands;I)V" } : Jvm.MethodName)) ∈ lw_all := lw_g (lw_at lw_m3 161 rfl) rfl
theorem q723 : (Jvm.Cond.privateMethod ({ cls := "SandPiano", name := "playIn", desc := "(LSandPiano$Sands;I)V" } : Jvm.MethodName)) ∈ lw_tbl := lw_at lw_m3 162 rfl
theorem q724 : (Jvm.Cond.instanceMethod ({ cls := "SandPiano", name := "playIn", desc := "(LSandPiano$Sands;I)V" } : Jvm.MethodName)) ∈ lw_all := lw_g (lw_at lw_m3 163 rfl) rfl
theorem q725 : (Jvm.Cond.code ({ cls := "SandPiano", name := "playIn", desc := "(LSandPiano$Sands;I)V" } : Jvm.MethodName) prog_1_method_32_code (3 : Nat) (Option.none : Option Jvm.ClassFile.FieldType)) ∈ lw_all := lw_g (lw_at lw_m3 164 rfl) rfl
theorem q726 : (Jvm.Cond.methodLink "SandPiano" (241 : Nat) ({ cls := "SandPiano$Key", name := "throwSand", desc := "(LSandPiano$Sands;I)V" } : Jvm.MethodName)) ∈ lw_all := lw_g (lw_at lw_m3 165 rfl) rfl
theorem q770 : (Jvm.Cond.instanceMethod ({ cls := "SandPiano", name := "tide", desc := "(I)I" } : Jvm.MethodName)) ∈ lw_all := lw_g (lw_at lw_m3 209 rfl) rfl
theorem q771 : (Jvm.Cond.selects "SandPiano" ({ cls := "SandPiano", name := "tide", desc := "(I)I" } : Jvm.MethodName) ({ cls := "SandPiano", name := "tide", desc := "(I)I" } : Jvm.MethodName)) ∈ lw_all := lw_g (lw_at lw_m3 210 rfl) rfl
theorem q772 : (Jvm.Cond.code ({ cls := "SandPiano", name := "tide", desc := "(I)I" } : Jvm.MethodName) prog_1_method_38_code (2 : Nat) (Option.some Jvm.ClassFile.FieldType.int)) ∈ lw_all := lw_g (lw_at lw_m3 211 rfl) rfl
theorem q773 : (Jvm.Cond.methodLink "SandPiano" (254 : Nat) ({ cls := "SandPiano", name := "isHeight", desc := "(I)Z" } : Jvm.MethodName)) ∈ lw_all := lw_g (lw_at lw_m3 212 rfl) rfl
theorem q774 : (Jvm.Cond.static ({ cls := "SandPiano", name := "isHeight", desc := "(I)Z" } : Jvm.MethodName)) ∈ lw_all := lw_g (lw_at lw_m3 213 rfl) rfl
theorem q775 : (Jvm.Cond.code ({ cls := "SandPiano", name := "isHeight", desc := "(I)Z" } : Jvm.MethodName) prog_1_method_37_code (1 : Nat) (Option.some Jvm.ClassFile.FieldType.boolean)) ∈ lw_all := lw_g (lw_at lw_m3 214 rfl) rfl
theorem q776 : (Jvm.Cond.methodLink "SandPiano" (257 : Nat) ({ cls := "SandPiano", name := "tideIn", desc := "(LSandPiano$Sands;I)I" } : Jvm.MethodName)) ∈ lw_all := lw_g (lw_at lw_m3 215 rfl) rfl
theorem q777 : (Jvm.Cond.privateMethod ({ cls := "SandPiano", name := "tideIn", desc := "(LSandPiano$Sands;I)I" } : Jvm.MethodName)) ∈ lw_tbl := lw_at lw_m3 216 rfl
theorem q778 : (Jvm.Cond.instanceMethod ({ cls := "SandPiano", name := "tideIn", desc := "(LSandPiano$Sands;I)I" } : Jvm.MethodName)) ∈ lw_all := lw_g (lw_at lw_m3 217 rfl) rfl
theorem q779 : (Jvm.Cond.code ({ cls := "SandPiano", name := "tideIn", desc := "(LSandPiano$Sands;I)I" } : Jvm.MethodName) prog_1_method_36_code (5 : Nat) (Option.some Jvm.ClassFile.FieldType.int)) ∈ lw_all := lw_g (lw_at lw_m3 218 rfl) rfl
theorem q781 : (Jvm.Cond.instanceMethod ({ cls := "SandPiano", name := "storm", desc := "(I)I" } : Jvm.MethodName)) ∈ lw_all := lw_g (lw_at lw_m3 220 rfl) rfl
theorem q782 : (Jvm.Cond.selects "SandPiano" ({ cls := "SandPiano", name := "storm", desc := "(I)I" } : Jvm.MethodName) ({ cls := "SandPiano", name := "storm", desc := "(I)I" } : Jvm.MethodName)) ∈ lw_all := lw_g (lw_at lw_m3 221 rfl) rfl
theorem q783 : (Jvm.Cond.code ({ cls := "SandPiano", name := "storm", desc := "(I)I" } : Jvm.MethodName) prog_1_method_39_code (4 : Nat) (Option.some Jvm.ClassFile.FieldType.int)) ∈ lw_all := lw_g (lw_at lw_m3 222 rfl) rfl
theorem q784 : (Jvm.Cond.constant "SandPiano" (261 : Nat) (1048576 : Int32)) ∈ lw_all := lw_g (lw_at lw_m3 223 rfl) rfl
theorem q785 : (Jvm.Cond.methodLink "SandPiano" (262 : Nat) ({ cls := "SandPiano$Sands", name := "move", desc := "(III)I" } : Jvm.MethodName)) ∈ lw_all := lw_g (lw_at lw_m3 224 rfl) rfl
theorem q787 : (Jvm.Cond.instanceMethod ({ cls := "SandPiano", name := "dig", desc := "(I)I" } : Jvm.MethodName)) ∈ lw_all := lw_g (lw_at lw_m3 226 rfl) rfl
theorem q788 : (Jvm.Cond.selects "SandPiano" ({ cls := "SandPiano", name := "dig", desc := "(I)I" } : Jvm.MethodName) ({ cls := "SandPiano", name := "dig", desc := "(I)I" } : Jvm.MethodName)) ∈ lw_all := lw_g (lw_at lw_m3 227 rfl) rfl
theorem q789 : (Jvm.Cond.code ({ cls := "SandPiano", name := "dig", desc := "(I)I" } : Jvm.MethodName) prog_1_method_41_code (2 : Nat) (Option.some Jvm.ClassFile.FieldType.int)) ∈ lw_all := lw_g (lw_at lw_m3 228 rfl) rfl
theorem q790 : (Jvm.Cond.methodLink "SandPiano" (266 : Nat) ({ cls := "SandPiano", name := "digIn", desc := "(LSandPiano$Sands;I)I" } : Jvm.MethodName)) ∈ lw_all := lw_g (lw_at lw_m3 229 rfl) rfl
theorem q791 : (Jvm.Cond.privateMethod ({ cls := "SandPiano", name := "digIn", desc := "(LSandPiano$Sands;I)I" } : Jvm.MethodName)) ∈ lw_tbl := lw_at lw_m3 230 rfl
theorem q792 : (Jvm.Cond.instanceMethod ({ cls := "SandPiano", name := "digIn", desc := "(LSandPiano$Sands;I)I" } : Jvm.MethodName)) ∈ lw_all := lw_g (lw_at lw_m3 231 rfl) rfl
theorem q793 : (Jvm.Cond.code ({ cls := "SandPiano", name := "digIn", desc := "(LSandPiano$Sands;I)I" } : Jvm.MethodName) prog_1_method_40_code (3 : Nat) (Option.some Jvm.ClassFile.FieldType.int)) ∈ lw_all := lw_g (lw_at lw_m3 232 rfl) rfl
theorem q795 : (Jvm.Cond.instanceMethod ({ cls := "SandPiano", name := "undo", desc := "(I)I" } : Jvm.MethodName)) ∈ lw_all := lw_g (lw_at lw_m3 234 rfl) rfl
theorem q796 : (Jvm.Cond.selects "SandPiano" ({ cls := "SandPiano", name := "undo", desc := "(I)I" } : Jvm.MethodName) ({ cls := "SandPiano", name := "undo", desc := "(I)I" } : Jvm.MethodName)) ∈ lw_all := lw_g (lw_at lw_m3 235 rfl) rfl
theorem q797 : (Jvm.Cond.code ({ cls := "SandPiano", name := "undo", desc := "(I)I" } : Jvm.MethodName) prog_1_method_42_code (3 : Nat) (Option.some Jvm.ClassFile.FieldType.int)) ∈ lw_all := lw_g (lw_at lw_m3 236 rfl) rfl
theorem q799 : (Jvm.Cond.instanceMethod ({ cls := "SandPiano", name := "can", desc := "()I" } : Jvm.MethodName)) ∈ lw_all := lw_g (lw_at lw_m3 238 rfl) rfl
theorem q800 : (Jvm.Cond.selects "SandPiano" ({ cls := "SandPiano", name := "can", desc := "()I" } : Jvm.MethodName) ({ cls := "SandPiano", name := "can", desc := "()I" } : Jvm.MethodName)) ∈ lw_all := lw_g (lw_at lw_m3 239 rfl) rfl
theorem q801 : (Jvm.Cond.code ({ cls := "SandPiano", name := "can", desc := "()I" } : Jvm.MethodName) prog_1_method_43_code (1 : Nat) (Option.some Jvm.ClassFile.FieldType.int)) ∈ lw_all := lw_g (lw_at lw_m4 0 rfl) rfl
theorem q802 : (Jvm.Cond.methodLink "SandPiano" (269 : Nat) ({ cls := "SandPiano", name := "playable", desc := "()I" } : Jvm.MethodName)) ∈ lw_all := lw_g (lw_at lw_m4 1 rfl) rfl
theorem q804 : (Jvm.Cond.instanceMethod ({ cls := "SandPiano", name := "keep", desc := "(I)I" } : Jvm.MethodName)) ∈ lw_all := lw_g (lw_at lw_m4 3 rfl) rfl
theorem q805 : (Jvm.Cond.selects "SandPiano" ({ cls := "SandPiano", name := "keep", desc := "(I)I" } : Jvm.MethodName) ({ cls := "SandPiano", name := "keep", desc := "(I)I" } : Jvm.MethodName)) ∈ lw_all := lw_g (lw_at lw_m4 4 rfl) rfl
theorem q806 : (Jvm.Cond.code ({ cls := "SandPiano", name := "keep", desc := "(I)I" } : Jvm.MethodName) prog_1_method_45_code (2 : Nat) (Option.some Jvm.ClassFile.FieldType.int)) ∈ lw_all := lw_g (lw_at lw_m4 5 rfl) rfl
theorem q807 : (Jvm.Cond.methodLink "SandPiano" (272 : Nat) ({ cls := "SandPiano", name := "isKept", desc := "(I)Z" } : Jvm.MethodName)) ∈ lw_all := lw_g (lw_at lw_m4 6 rfl) rfl
theorem q808 : (Jvm.Cond.static ({ cls := "SandPiano", name := "isKept", desc := "(I)Z" } : Jvm.MethodName)) ∈ lw_all := lw_g (lw_at lw_m4 7 rfl) rfl
theorem q809 : (Jvm.Cond.code ({ cls := "SandPiano", name := "isKept", desc := "(I)Z" } : Jvm.MethodName) prog_1_method_44_code (1 : Nat) (Option.some Jvm.ClassFile.FieldType.boolean)) ∈ lw_all := lw_g (lw_at lw_m4 8 rfl) rfl
theorem q811 : (Jvm.Cond.methodLinkNest "SandPiano" (275 : Nat) ({ cls := "SandPiano$Kept", name := "<init>", desc := "()V" } : Jvm.MethodName) "SandPiano") ∈ lw_tbl := lw_at lw_m4 10 rfl
theorem q818 : (Jvm.Cond.fieldLinkNest "SandPiano" (276 : Nat) "SandPiano$Kept" "sands" "LSandPiano$Sands;" "SandPiano") ∈ lw_tbl := lw_at lw_m4 17 rfl
theorem q820 : (Jvm.Cond.fieldLinkNest "SandPiano" (281 : Nat) "SandPiano$Kept" "ahead" "[I" "SandPiano") ∈ lw_tbl := lw_at lw_m4 19 rfl
theorem q821 : (Jvm.Cond.fieldLinkNest "SandPiano" (282 : Nat) "SandPiano$Kept" "deedMany" "I" "SandPiano") ∈ lw_tbl := lw_at lw_m4 20 rfl
theorem q822 : (Jvm.Cond.fieldLinkNest "SandPiano" (283 : Nat) "SandPiano$Kept" "spade" "I" "SandPiano") ∈ lw_tbl := lw_at lw_m4 21 rfl
theorem q832 : (Jvm.Cond.methodLink "SandPiano" (277 : Nat) ({ cls := "SandPiano$Sands", name := "take", desc := "(LSandPiano$Sands;)V" } : Jvm.MethodName)) ∈ lw_all := lw_g (lw_at lw_m4 31 rfl) rfl
theorem q838 : (Jvm.Cond.instanceMethod ({ cls := "SandPiano", name := "on", desc := "(I)I" } : Jvm.MethodName)) ∈ lw_all := lw_g (lw_at lw_m4 37 rfl) rfl
theorem q839 : (Jvm.Cond.selects "SandPiano" ({ cls := "SandPiano", name := "on", desc := "(I)I" } : Jvm.MethodName) ({ cls := "SandPiano", name := "on", desc := "(I)I" } : Jvm.MethodName)) ∈ lw_all := lw_g (lw_at lw_m4 38 rfl) rfl
theorem q840 : (Jvm.Cond.code ({ cls := "SandPiano", name := "on", desc := "(I)I" } : Jvm.MethodName) prog_1_method_46_code (2 : Nat) (Option.some Jvm.ClassFile.FieldType.int)) ∈ lw_all := lw_g (lw_at lw_m4 39 rfl) rfl
theorem q842 : (Jvm.Cond.instanceMethod ({ cls := "SandPiano", name := "judge", desc := "(I)I" } : Jvm.MethodName)) ∈ lw_all := lw_g (lw_at lw_m4 41 rfl) rfl
theorem q843 : (Jvm.Cond.selects "SandPiano" ({ cls := "SandPiano", name := "judge", desc := "(I)I" } : Jvm.MethodName) ({ cls := "SandPiano", name := "judge", desc := "(I)I" } : Jvm.MethodName)) ∈ lw_all := lw_g (lw_at lw_m4 42 rfl) rfl
theorem q844 : (Jvm.Cond.code ({ cls := "SandPiano", name := "judge", desc := "(I)I" } : Jvm.MethodName) prog_1_method_49_code (4 : Nat) (Option.some Jvm.ClassFile.FieldType.int)) ∈ lw_all := lw_g (lw_at lw_m4 43 rfl) rfl
theorem q845 : (Jvm.Cond.methodLink "SandPiano" (284 : Nat) ({ cls := "SandPiano", name := "askedPiece", desc := "(I)I" } : Jvm.MethodName)) ∈ lw_all := lw_g (lw_at lw_m4 44 rfl) rfl
theorem q846 : (Jvm.Cond.privateMethod ({ cls := "SandPiano", name := "askedPiece", desc := "(I)I" } : Jvm.MethodName)) ∈ lw_tbl := lw_at lw_m4 45 rfl
theorem q847 : (Jvm.Cond.instanceMethod ({ cls := "SandPiano", name := "askedPiece", desc := "(I)I" } : Jvm.MethodName)) ∈ lw_all := lw_g (lw_at lw_m4 46 rfl) rfl
theorem q848 : (Jvm.Cond.code ({ cls := "SandPiano", name := "askedPiece", desc := "(I)I" } : Jvm.MethodName) prog_1_method_47_code (6 : Nat) (Option.some Jvm.ClassFile.FieldType.int)) ∈ lw_all := lw_g (lw_at lw_m4 47 rfl) rfl
theorem q849 : (Jvm.Cond.methodLink "SandPiano" (287 : Nat) ({ cls := "SandPiano", name := "playOn", desc := "(LSandPiano$Sands;[I)I" } : Jvm.MethodName)) ∈ lw_all := lw_g (lw_at lw_m4 48 rfl) rfl
theorem q850 : (Jvm.Cond.privateMethod ({ cls := "SandPiano", name := "playOn", desc := "(LSandPiano$Sands;[I)I" } : Jvm.MethodName)) ∈ lw_tbl := lw_at lw_m4 49 rfl
theorem q851 : (Jvm.Cond.instanceMethod ({ cls := "SandPiano", name := "playOn", desc := "(LSandPiano$Sands;[I)I" } : Jvm.MethodName)) ∈ lw_all := lw_g (lw_at lw_m4 50 rfl) rfl
theorem q852 : (Jvm.Cond.code ({ cls := "SandPiano", name := "playOn", desc := "(LSandPiano$Sands;[I)I" } : Jvm.MethodName) prog_1_method_48_code (4 : Nat) (Option.some Jvm.ClassFile.FieldType.int)) ∈ lw_all := lw_g (lw_at lw_m4 51 rfl) rfl
theorem q854 : (Jvm.Cond.instanceMethod ({ cls := "SandPiano", name := "earns", desc := "(I)I" } : Jvm.MethodName)) ∈ lw_all := lw_g (lw_at lw_m4 53 rfl) rfl
theorem q855 : (Jvm.Cond.selects "SandPiano" ({ cls := "SandPiano", name := "earns", desc := "(I)I" } : Jvm.MethodName) ({ cls := "SandPiano", name := "earns", desc := "(I)I" } : Jvm.MethodName)) ∈ lw_all := lw_g (lw_at lw_m4 54 rfl) rfl
theorem q856 : (Jvm.Cond.code ({ cls := "SandPiano", name := "earns", desc := "(I)I" } : Jvm.MethodName) prog_1_method_50_code (3 : Nat) (Option.some Jvm.ClassFile.FieldType.int)) ∈ lw_all := lw_g (lw_at lw_m4 55 rfl) rfl
theorem q858 : (Jvm.Cond.instanceMethod ({ cls := "SandPiano", name := "digs", desc := "(II)I" } : Jvm.MethodName)) ∈ lw_all := lw_g (lw_at lw_m4 57 rfl) rfl
theorem q859 : (Jvm.Cond.selects "SandPiano" ({ cls := "SandPiano", name := "digs", desc := "(II)I" } : Jvm.MethodName) ({ cls := "SandPiano", name := "digs", desc := "(II)I" } : Jvm.MethodName)) ∈ lw_all := lw_g (lw_at lw_m4 58 rfl) rfl
theorem q860 : (Jvm.Cond.code ({ cls := "SandPiano", name := "digs", desc := "(II)I" } : Jvm.MethodName) prog_1_method_53_code (5 : Nat) (Option.some Jvm.ClassFile.FieldType.int)) ∈ lw_all := lw_g (lw_at lw_m4 59 rfl) rfl
theorem q861 : (Jvm.Cond.methodLink "SandPiano" (291 : Nat) ({ cls := "SandPiano", name := "digOn", desc := "([III)Z" } : Jvm.MethodName)) ∈ lw_all := lw_g (lw_at lw_m4 60 rfl) rfl
theorem q862 : (Jvm.Cond.privateMethod ({ cls := "SandPiano", name := "digOn", desc := "([III)Z" } : Jvm.MethodName)) ∈ lw_tbl := lw_at lw_m4 61 rfl
theorem q863 : (Jvm.Cond.instanceMethod ({ cls := "SandPiano", name := "digOn", desc := "([III)Z" } : Jvm.MethodName)) ∈ lw_all := lw_g (lw_at lw_m4 62 rfl) rfl
theorem q864 : (Jvm.Cond.code ({ cls := "SandPiano", name := "digOn", desc := "([III)Z" } : Jvm.MethodName) prog_1_method_51_code (5 : Nat) (Option.some Jvm.ClassFile.FieldType.boolean)) ∈ lw_all := lw_g (lw_at lw_m4 63 rfl) rfl
theorem q865 : (Jvm.Cond.methodLink "SandPiano" (295 : Nat) ({ cls := "SandPiano", name := "layRow", desc := "(I[II)I" } : Jvm.MethodName)) ∈ lw_all := lw_g (lw_at lw_m4 64 rfl) rfl
theorem q866 : (Jvm.Cond.privateMethod ({ cls := "SandPiano", name := "layRow", desc := "(I[II)I" } : Jvm.MethodName)) ∈ lw_tbl := lw_at lw_m4 65 rfl
theorem q867 : (Jvm.Cond.instanceMethod ({ cls := "SandPiano", name := "layRow", desc := "(I[II)I" } : Jvm.MethodName)) ∈ lw_all := lw_g (lw_at lw_m4 66 rfl) rfl
theorem q868 : (Jvm.Cond.code ({ cls := "SandPiano", name := "layRow", desc := "(I[II)I" } : Jvm.MethodName) prog_1_method_52_code (4 : Nat) (Option.some Jvm.ClassFile.FieldType.int)) ∈ lw_all := lw_g (lw_at lw_m4 67 rfl) rfl
theorem q870 : (Jvm.Cond.instanceMethod ({ cls := "SandPiano", name := "lasts", desc := "(II)I" } : Jvm.MethodName)) ∈ lw_all := lw_g (lw_at lw_m4 69 rfl) rfl
theorem q871 : (Jvm.Cond.selects "SandPiano" ({ cls := "SandPiano", name := "lasts", desc := "(II)I" } : Jvm.MethodName) ({ cls := "SandPiano", name := "lasts", desc := "(II)I" } : Jvm.MethodName)) ∈ lw_all := lw_g (lw_at lw_m4 70 rfl) rfl
theorem q872 : (Jvm.Cond.code ({ cls := "SandPiano", name := "lasts", desc := "(II)I" } : Jvm.MethodName) prog_1_method_54_code (6 : Nat) (Option.some Jvm.ClassFile.FieldType.int)) ∈ lw_all := lw_g (lw_at lw_m4 71 rfl) rfl
theorem q874 : (Jvm.Cond.instanceMethod ({ cls := "SandPiano", name := "duet", desc := "(II)I" } : Jvm.MethodName)) ∈ lw_all := lw_g (lw_at lw_m4 73 rfl) rfl
theorem q875 : (Jvm.Cond.selects "SandPiano" ({ cls := "SandPiano", name := "duet", desc := "(II)I" } : Jvm.MethodName) ({ cls := "SandPiano", name := "duet", desc := "(II)I" } : Jvm.MethodName)) ∈ lw_all := lw_g (lw_at lw_m4 74 rfl) rfl
theorem q876 : (Jvm.Cond.code ({ cls := "SandPiano", name := "duet", desc := "(II)I" } : Jvm.MethodName) prog_1_method_55_code (6 : Nat) (Option.some Jvm.ClassFile.FieldType.int)) ∈ lw_all := lw_g (lw_at lw_m4 75 rfl) rfl
theorem q878 : (Jvm.Cond.instanceMethod ({ cls := "SandPiano", name := "most", desc := "(I)I" } : Jvm.MethodName)) ∈ lw_all := lw_g (lw_at lw_m4 77 rfl) rfl
theorem q879 : (Jvm.Cond.selects "SandPiano" ({ cls := "SandPiano", name := "most", desc := "(I)I" } : Jvm.MethodName) ({ cls := "SandPiano", name := "most", desc := "(I)I" } : Jvm.MethodName)) ∈ lw_all := lw_g (lw_at lw_m4 78 rfl) rfl
theorem q880 : (Jvm.Cond.code ({ cls := "SandPiano", name := "most", desc := "(I)I" } : Jvm.MethodName) prog_1_method_59_code (2 : Nat) (Option.some Jvm.ClassFile.FieldType.int)) ∈ lw_all := lw_g (lw_at lw_m4 79 rfl) rfl
theorem q881 : (Jvm.Cond.methodLink "SandPiano" (310 : Nat) ({ cls := "SandPiano", name := "mostOn", desc := "(II)V" } : Jvm.MethodName)) ∈ lw_all := lw_g (lw_at lw_m4 80 rfl) rfl
theorem q882 : (Jvm.Cond.privateMethod ({ cls := "SandPiano", name := "mostOn", desc := "(II)V" } : Jvm.MethodName)) ∈ lw_tbl := lw_at lw_m4 81 rfl
theorem q883 : (Jvm.Cond.instanceMethod ({ cls := "SandPiano", name := "mostOn", desc := "(II)V" } : Jvm.MethodName)) ∈ lw_all := lw_g (lw_at lw_m4 82 rfl) rfl
theorem q884 : (Jvm.Cond.code ({ cls := "SandPiano", name := "mostOn", desc := "(II)V" } : Jvm.MethodName) prog_1_method_58_code (4 : Nat) (Option.none : Option Jvm.ClassFile.FieldType)) ∈ lw_all := lw_g (lw_at lw_m4 83 rfl) rfl
theorem q885 : (Jvm.Cond.methodLink "SandPiano" (302 : Nat) ({ cls := "SandPiano", name := "has", desc := "(II)Z" } : Jvm.MethodName)) ∈ lw_all := lw_g (lw_at lw_m4 84 rfl) rfl
theorem q886 : (Jvm.Cond.static ({ cls := "SandPiano", name := "has", desc := "(II)Z" } : Jvm.MethodName)) ∈ lw_all := lw_g (lw_at lw_m4 85 rfl) rfl
theorem q887 : (Jvm.Cond.code ({ cls := "SandPiano", name := "has", desc := "(II)Z" } : Jvm.MethodName) prog_1_method_2_code (2 : Nat) (Option.some Jvm.ClassFile.FieldType.boolean)) ∈ lw_all := lw_g (lw_at lw_m4 86 rfl) rfl
theorem q888 : (Jvm.Cond.methodLink "SandPiano" (306 : Nat) ({ cls := "SandPiano", name := "goDeep", desc := "(II)V" } : Jvm.MethodName)) ∈ lw_all := lw_g (lw_at lw_m4 87 rfl) rfl
theorem q889 : (Jvm.Cond.privateMethod ({ cls := "SandPiano", name := "goDeep", desc := "(II)V" } : Jvm.MethodName)) ∈ lw_tbl := lw_at lw_m4 88 rfl
theorem q890 : (Jvm.Cond.instanceMethod ({ cls := "SandPiano", name := "goDeep", desc := "(II)V" } : Jvm.MethodName)) ∈ lw_all := lw_g (lw_at lw_m4 89 rfl) rfl
theorem q891 : (Jvm.Cond.code ({ cls := "SandPiano", name := "goDeep", desc := "(II)V" } : Jvm.MethodName) prog_1_method_57_code (3 : Nat) (Option.none : Option Jvm.ClassFile.FieldType)) ∈ lw_all := lw_g (lw_at lw_m4 90 rfl) rfl
theorem q893 : (Jvm.Cond.instanceMethod ({ cls := "SandPiano", name := "best", desc := "(II)I" } : Jvm.MethodName)) ∈ lw_all := lw_g (lw_at lw_m4 92 rfl) rfl
theorem q894 : (Jvm.Cond.selects "SandPiano" ({ cls := "SandPiano", name := "best", desc := "(II)I" } : Jvm.MethodName) ({ cls := "SandPiano", name := "best", desc := "(II)I" } : Jvm.MethodName)) ∈ lw_all := lw_g (lw_at lw_m4 93 rfl) rfl
theorem q895 : (Jvm.Cond.code ({ cls := "SandPiano", name := "best", desc := "(II)I" } : Jvm.MethodName) prog_1_method_61_code (3 : Nat) (Option.some Jvm.ClassFile.FieldType.int)) ∈ lw_all := lw_g (lw_at lw_m4 94 rfl) rfl
theorem q896 : (Jvm.Cond.methodLink "SandPiano" (316 : Nat) ({ cls := "SandPiano", name := "bestOn", desc := "(II)V" } : Jvm.MethodName)) ∈ lw_all := lw_g (lw_at lw_m4 95 rfl) rfl
theorem q897 : (Jvm.Cond.privateMethod ({ cls := "SandPiano", name := "bestOn", desc := "(II)V" } : Jvm.MethodName)) ∈ lw_tbl := lw_at lw_m4 96 rfl
theorem q898 : (Jvm.Cond.instanceMethod ({ cls := "SandPiano", name := "bestOn", desc := "(II)V" } : Jvm.MethodName)) ∈ lw_all := lw_g (lw_at lw_m4 97 rfl) rfl
theorem q899 : (Jvm.Cond.code ({ cls := "SandPiano", name := "bestOn", desc := "(II)V" } : Jvm.MethodName) prog_1_method_60_code (4 : Nat) (Option.none : Option Jvm.ClassFile.FieldType)) ∈ lw_all := lw_g (lw_at lw_m4 98 rfl) rfl
theorem q901 : (Jvm.Cond.instanceMethod ({ cls := "SandPiano", name := "rows", desc := "(I)I" } : Jvm.MethodName)) ∈ lw_all := lw_g (lw_at lw_m4 100 rfl) rfl
theorem q902 : (Jvm.Cond.selects "SandPiano" ({ cls := "SandPiano", name := "rows", desc := "(I)I" } : Jvm.MethodName) ({ cls := "SandPiano", name := "rows", desc := "(I)I" } : Jvm.MethodName)) ∈ lw_all := lw_g (lw_at lw_m4 101 rfl) rfl
theorem q903 : (Jvm.Cond.code ({ cls := "SandPiano", name := "rows", desc := "(I)I" } : Jvm.MethodName) prog_1_method_64_code (2 : Nat) (Option.some Jvm.ClassFile.FieldType.int)) ∈ lw_all := lw_g (lw_at lw_m4 102 rfl) rfl
theorem q904 : (Jvm.Cond.methodLink "SandPiano" (328 : Nat) ({ cls := "SandPiano", name := "rowsOn", desc := "(II)V" } : Jvm.MethodName)) ∈ lw_all := lw_g (lw_at lw_m4 103 rfl) rfl
theorem q905 : (Jvm.Cond.privateMethod ({ cls := "SandPiano", name := "rowsOn", desc := "(II)V" } : Jvm.MethodName)) ∈ lw_tbl := lw_at lw_m4 104 rfl
theorem q906 : (Jvm.Cond.instanceMethod ({ cls := "SandPiano", name := "rowsOn", desc := "(II)V" } : Jvm.MethodName)) ∈ lw_all := lw_g (lw_at lw_m4 105 rfl) rfl
theorem q907 : (Jvm.Cond.code ({ cls := "SandPiano", name := "rowsOn", desc := "(II)V" } : Jvm.MethodName) prog_1_method_63_code (4 : Nat) (Option.none : Option Jvm.ClassFile.FieldType)) ∈ lw_all := lw_g (lw_at lw_m4 106 rfl) rfl
theorem q908 : (Jvm.Cond.methodLink "SandPiano" (325 : Nat) ({ cls := "SandPiano", name := "isLeft", desc := "(LSandPiano$Sands;)Z" } : Jvm.MethodName)) ∈ lw_all := lw_g (lw_at lw_m4 107 rfl) rfl
theorem q909 : (Jvm.Cond.privateMethod ({ cls := "SandPiano", name := "isLeft", desc := "(LSandPiano$Sands;)Z" } : Jvm.MethodName)) ∈ lw_tbl := lw_at lw_m4 108 rfl
theorem q910 : (Jvm.Cond.instanceMethod ({ cls := "SandPiano", name := "isLeft", desc := "(LSandPiano$Sands;)Z" } : Jvm.MethodName)) ∈ lw_all := lw_g (lw_at lw_m4 109 rfl) rfl
theorem q911 : (Jvm.Cond.code ({ cls := "SandPiano", name := "isLeft", desc := "(LSandPiano$Sands;)Z" } : Jvm.MethodName) prog_1_method_62_code (5 : Nat) (Option.some Jvm.ClassFile.FieldType.boolean)) ∈ lw_all := lw_g (lw_at lw_m4 110 rfl) rfl
theorem q913 : (Jvm.Cond.instanceMethod ({ cls := "SandPiano", name := "back", desc := "(III)I" } : Jvm.MethodName)) ∈ lw_all := lw_g (lw_at lw_m4 112 rfl) rfl
theorem q914 : (Jvm.Cond.selects "SandPiano" ({ cls := "SandPiano", name := "back", desc := "(III)I" } : Jvm.MethodName) ({ cls := "SandPiano", name := "back", desc := "(III)I" } : Jvm.MethodName)) ∈ lw_all := lw_g (lw_at lw_m4 113 rfl) rfl
theorem q915 : (Jvm.Cond.code ({ cls := "SandPiano", name := "back", desc := "(III)I" } : Jvm.MethodName) prog_1_method_67_code (8 : Nat) (Option.some Jvm.ClassFile.FieldType.int)) ∈ lw_all := lw_g (lw_at lw_m4 114 rfl) rfl
theorem q916 : (Jvm.Cond.methodLink "SandPiano" (337 : Nat) ({ cls := "SandPiano", name := "backOn", desc := "(II)V" } : Jvm.MethodName)) ∈ lw_all := lw_g (lw_at lw_m4 115 rfl) rfl
theorem q917 : (Jvm.Cond.privateMethod ({ cls := "SandPiano", name := "backOn", desc := "(II)V" } : Jvm.MethodName)) ∈ lw_tbl := lw_at lw_m4 116 rfl
theorem q918 : (Jvm.Cond.instanceMethod ({ cls := "SandPiano", name := "backOn", desc := "(II)V" } : Jvm.MethodName)) ∈ lw_all := lw_g (lw_at lw_m4 117 rfl) rfl
theorem q919 : (Jvm.Cond.code ({ cls := "SandPiano", name := "backOn", desc := "(II)V" } : Jvm.MethodName) prog_1_method_66_code (4 : Nat) (Option.none : Option Jvm.ClassFile.FieldType)) ∈ lw_all := lw_g (lw_at lw_m4 118 rfl) rfl
theorem q920 : (Jvm.Cond.methodLink "SandPiano" (331 : Nat) ({ cls := "SandPiano", name := "liesAsNow", desc := "(LSandPiano$Sands;)Z" } : Jvm.MethodName)) ∈ lw_all := lw_g (lw_at lw_m4 119 rfl) rfl
theorem q921 : (Jvm.Cond.privateMethod ({ cls := "SandPiano", name := "liesAsNow", desc := "(LSandPiano$Sands;)Z" } : Jvm.MethodName)) ∈ lw_tbl := lw_at lw_m4 120 rfl
theorem q922 : (Jvm.Cond.instanceMethod ({ cls := "SandPiano", name := "liesAsNow", desc := "(LSandPiano$Sands;)Z" } : Jvm.MethodName)) ∈ lw_all := lw_g (lw_at lw_m4 121 rfl) rfl
theorem q923 : (Jvm.Cond.code ({ cls := "SandPiano", name := "liesAsNow", desc := "(LSandPiano$Sands;)Z" } : Jvm.MethodName) prog_1_method_65_code (4 : Nat) (Option.some Jvm.ClassFile.FieldType.boolean)) ∈ lw_all := lw_g (lw_at lw_m4 122 rfl) rfl
theorem q925 : (Jvm.Cond.instanceMethod ({ cls := "SandPiano", name := "ring", desc := "(I)I" } : Jvm.MethodName)) ∈ lw_all := lw_g (lw_at lw_m4 124 rfl) rfl
theorem q926 : (Jvm.Cond.selects "SandPiano" ({ cls := "SandPiano", name := "ring", desc := "(I)I" } : Jvm.MethodName) ({ cls := "SandPiano", name := "ring", desc := "(I)I" } : Jvm.MethodName)) ∈ lw_all := lw_g (lw_at lw_m4 125 rfl) rfl
theorem q927 : (Jvm.Cond.code ({ cls := "SandPiano", name := "ring", desc := "(I)I" } : Jvm.MethodName) prog_1_method_71_code (3 : Nat) (Option.some Jvm.ClassFile.FieldType.int)) ∈ lw_all := lw_g (lw_at lw_m4 126 rfl) rfl
theorem q928 : (Jvm.Cond.methodLink "SandPiano" (343 : Nat) ({ cls := "SandPiano", name := "askedSong", desc := "(I)I" } : Jvm.MethodName)) ∈ lw_all := lw_g (lw_at lw_m4 127 rfl) rfl
theorem q929 : (Jvm.Cond.privateMethod ({ cls := "SandPiano", name := "askedSong", desc := "(I)I" } : Jvm.MethodName)) ∈ lw_tbl := lw_at lw_m4 128 rfl
theorem q930 : (Jvm.Cond.instanceMethod ({ cls := "SandPiano", name := "askedSong", desc := "(I)I" } : Jvm.MethodName)) ∈ lw_all := lw_g (lw_at lw_m4 129 rfl) rfl
theorem q931 : (Jvm.Cond.code ({ cls := "SandPiano", name := "askedSong", desc := "(I)I" } : Jvm.MethodName) prog_1_method_68_code (4 : Nat) (Option.some Jvm.ClassFile.FieldType.int)) ∈ lw_all := lw_g (lw_at lw_m4 130 rfl) rfl
theorem q932 : (Jvm.Cond.methodLink "SandPiano" (346 : Nat) ({ cls := "SandPiano", name := "ringSet", desc := "([I)I" } : Jvm.MethodName)) ∈ lw_all := lw_g (lw_at lw_m4 131 rfl) rfl
theorem q933 : (Jvm.Cond.privateMethod ({ cls := "SandPiano", name := "ringSet", desc := "([I)I" } : Jvm.MethodName)) ∈ lw_tbl := lw_at lw_m4 132 rfl
theorem q934 : (Jvm.Cond.instanceMethod ({ cls := "SandPiano", name := "ringSet", desc := "([I)I" } : Jvm.MethodName)) ∈ lw_all := lw_g (lw_at lw_m4 133 rfl) rfl
theorem q935 : (Jvm.Cond.code ({ cls := "SandPiano", name := "ringSet", desc := "([I)I" } : Jvm.MethodName) prog_1_method_70_code (4 : Nat) (Option.some Jvm.ClassFile.FieldType.int)) ∈ lw_all := lw_g (lw_at lw_m4 134 rfl) rfl
theorem q936 : (Jvm.Cond.methodLink "SandPiano" (340 : Nat) ({ cls := "SandPiano", name := "singsBy", desc := "(I)I" } : Jvm.MethodName)) ∈ lw_all := lw_g (lw_at lw_m4 135 rfl) rfl
theorem q937 : (Jvm.Cond.privateMethod ({ cls := "SandPiano", name := "singsBy", desc := "(I)I" } : Jvm.MethodName)) ∈ lw_tbl := lw_at lw_m4 136 rfl
theorem q938 : (Jvm.Cond.instanceMethod ({ cls := "SandPiano", name := "singsBy", desc := "(I)I" } : Jvm.MethodName)) ∈ lw_all := lw_g (lw_at lw_m4 137 rfl) rfl
theorem q939 : (Jvm.Cond.code ({ cls := "SandPiano", name := "singsBy", desc := "(I)I" } : Jvm.MethodName) prog_1_method_69_code (2 : Nat) (Option.some Jvm.ClassFile.FieldType.int)) ∈ lw_all := lw_g (lw_at lw_m4 138 rfl) rfl
theorem q941 : (Jvm.Cond.instanceMethod ({ cls := "SandPiano", name := "strike", desc := "(I)I" } : Jvm.MethodName)) ∈ lw_all := lw_g (lw_at lw_m4 140 rfl) rfl
theorem q942 : (Jvm.Cond.selects "SandPiano" ({ cls := "SandPiano", name := "strike", desc := "(I)I" } : Jvm.MethodName) ({ cls := "SandPiano", name := "strike", desc := "(I)I" } : Jvm.MethodName)) ∈ lw_all := lw_g (lw_at lw_m4 141 rfl) rfl
theorem q943 : (Jvm.Cond.code ({ cls := "SandPiano", name := "strike", desc := "(I)I" } : Jvm.MethodName) prog_1_method_72_code (8 : Nat) (Option.some Jvm.ClassFile.FieldType.int)) ∈ lw_all := lw_g (lw_at lw_m4 142 rfl) rfl
theorem q944 : (Jvm.Cond.methodLink "SandPiano" (350 : Nat) ({ cls := "java/lang/Integer", name := "bitCount", desc := "(I)I" } : Jvm.MethodName)) ∈ lw_all := lw_g (lw_at lw_m4 143 rfl) rfl
theorem q945 : (Jvm.Cond.methodLink "SandPiano" (355 : Nat) ({ cls := "java/lang/Math", name := "max", desc := "(II)I" } : Jvm.MethodName)) ∈ lw_all := lw_g (lw_at lw_m4 144 rfl) rfl
theorem q946 : (Jvm.Cond.methodLink "SandPiano" (360 : Nat) ({ cls := "java/lang/Math", name := "min", desc := "(II)I" } : Jvm.MethodName)) ∈ lw_all := lw_g (lw_at lw_m4 145 rfl) rfl
theorem q948 : (Jvm.Cond.instanceMethod ({ cls := "SandPiano", name := "tune", desc := "(I)I" } : Jvm.MethodName)) ∈ lw_all := lw_g (lw_at lw_m4 147 rfl) rfl
theorem q949 : (Jvm.Cond.selects "SandPiano" ({ cls := "SandPiano", name := "tune", desc := "(I)I" } : Jvm.MethodName) ({ cls := "SandPiano", name := "tune", desc := "(I)I" } : Jvm.MethodName)) ∈ lw_all := lw_g (lw_at lw_m4 148 rfl) rfl
theorem q950 : (Jvm.Cond.code ({ cls := "SandPiano", name := "tune", desc := "(I)I" } : Jvm.MethodName) prog_1_method_73_code (9 : Nat) (Option.some Jvm.ClassFile.FieldType.int)) ∈ lw_all := lw_g (lw_at lw_m4 149 rfl) rfl
theorem q951 : (Jvm.Cond.methodLink "SandPiano" (363 : Nat) ({ cls := "SandPiano", name := "chances", desc := "(JJ)I" } : Jvm.MethodName)) ∈ lw_all := lw_g (lw_at lw_m4 150 rfl) rfl
theorem q952 : (Jvm.Cond.privateMethod ({ cls := "SandPiano", name := "chances", desc := "(JJ)I" } : Jvm.MethodName)) ∈ lw_tbl := lw_at lw_m4 151 rfl
theorem q953 : (Jvm.Cond.instanceMethod ({ cls := "SandPiano", name := "chances", desc := "(JJ)I" } : Jvm.MethodName)) ∈ lw_all := lw_g (lw_at lw_m4 152 rfl) rfl
theorem q954 : (Jvm.Cond.code ({ cls := "SandPiano", name := "chances", desc := "(JJ)I" } : Jvm.MethodName) prog_1_method_6_code (7 : Nat) (Option.some Jvm.ClassFile.FieldType.int)) ∈ lw_all := lw_g (lw_at lw_m4 153 rfl) rfl
theorem q955 : (Jvm.Cond.methodLink "SandPiano" (14 : Nat) ({ cls := "SandPiano", name := "divisor", desc := "(JJ)J" } : Jvm.MethodName)) ∈ lw_all := lw_g (lw_at lw_m4 154 rfl) rfl
theorem q956 : (Jvm.Cond.static ({ cls := "SandPiano", name := "divisor", desc := "(JJ)J" } : Jvm.MethodName)) ∈ lw_all := lw_g (lw_at lw_m4 155 rfl) rfl
theorem q957 : (Jvm.Cond.code ({ cls := "SandPiano", name := "divisor", desc := "(JJ)J" } : Jvm.MethodName) prog_1_method_5_code (10 : Nat) (Option.some Jvm.ClassFile.FieldType.long)) ∈ lw_all := lw_g (lw_at lw_m4 156 rfl) rfl
theorem q959 : (Jvm.Cond.instanceMethod ({ cls := "SandPiano", name := "bet", desc := "(II)I" } : Jvm.MethodName)) ∈ lw_all := lw_g (lw_at lw_m4 158 rfl) rfl
theorem q960 : (Jvm.Cond.selects "SandPiano" ({ cls := "SandPiano", name := "bet", desc := "(II)I" } : Jvm.MethodName) ({ cls := "SandPiano", name := "bet", desc := "(II)I" } : Jvm.MethodName)) ∈ lw_all := lw_g (lw_at lw_m4 159 rfl) rfl
theorem q961 : (Jvm.Cond.code ({ cls := "SandPiano", name := "bet", desc := "(II)I" } : Jvm.MethodName) prog_1_method_75_code (6 : Nat) (Option.some Jvm.ClassFile.FieldType.int)) ∈ lw_all := lw_g (lw_at lw_m4 160 rfl) rfl
theorem q962 : (Jvm.Cond.methodLink "SandPiano" (372 : Nat) ({ cls := "SandPiano", name := "betOn", desc := "(IIIJ)V" } : Jvm.MethodName)) ∈ lw_all := lw_g (lw_at lw_m4 161 rfl) rfl
theorem q963 : (Jvm.Cond.privateMethod ({ cls := "SandPiano", name := "betOn", desc := "(IIIJ)V" } : Jvm.MethodName)) ∈ lw_tbl := lw_at lw_m4 162 rfl
theorem q964 : (Jvm.Cond.instanceMethod ({ cls := "SandPiano", name := "betOn", desc := "(IIIJ)V" } : Jvm.MethodName)) ∈ lw_all := lw_g (lw_at lw_m4 163 rfl) rfl
theorem q965 : (Jvm.Cond.code ({ cls := "SandPiano", name := "betOn", desc := "(IIIJ)V" } : Jvm.MethodName) prog_1_method_74_code (10 : Nat) (Option.none : Option Jvm.ClassFile.FieldType)) ∈ lw_all := lw_g (lw_at lw_m4 164 rfl) rfl
theorem q966 : (Jvm.Cond.constantLong "SandPiano" (367 : Nat) (60 : Int64)) ∈ lw_all := lw_g (lw_at lw_m4 165 rfl) rfl
theorem q968 : (Jvm.Cond.instanceMethod ({ cls := "SandPiano", name := "wind", desc := "(II)I" } : Jvm.MethodName)) ∈ lw_all := lw_g (lw_at lw_m4 167 rfl) rfl
theorem q969 : (Jvm.Cond.selects "SandPiano" ({ cls := "SandPiano", name := "wind", desc := "(II)I" } : Jvm.MethodName) ({ cls := "SandPiano", name := "wind", desc := "(II)I" } : Jvm.MethodName)) ∈ lw_all := lw_g (lw_at lw_m4 168 rfl) rfl
theorem q970 : (Jvm.Cond.code ({ cls := "SandPiano", name := "wind", desc := "(II)I" } : Jvm.MethodName) prog_1_method_76_code (8 : Nat) (Option.some Jvm.ClassFile.FieldType.int)) ∈ lw_all := lw_g (lw_at lw_m4 169 rfl) rfl
theorem q971 : (Jvm.Cond.constant "SandPiano" (376 : Nat) (2147483646 : Int32)) ∈ lw_all := lw_g (lw_at lw_m4 170 rfl) rfl
theorem q972 : (Jvm.Cond.constantLong "SandPiano" (377 : Nat) (48271 : Int64)) ∈ lw_all := lw_g (lw_at lw_m4 171 rfl) rfl
theorem q973 : (Jvm.Cond.constantLong "SandPiano" (379 : Nat) (2147483647 : Int64)) ∈ lw_all := lw_g (lw_at lw_m4 172 rfl) rfl
theorem q974 : (Jvm.Cond.methodLink "SandPiano" (381 : Nat) ({ cls := "java/lang/Integer", name := "numberOfTrailingZeros", desc := "(I)I" } : Jvm.MethodName)) ∈ lw_all := lw_g (lw_at lw_m4 173 rfl) rfl
theorem q979 : (Jvm.Cond.instanceMethod ({ cls := "SandPiano", name := "asked", desc := "()I" } : Jvm.MethodName)) ∈ lw_all := lw_g (lw_at lw_m4 178 rfl) rfl
theorem q980 : (Jvm.Cond.selects "SandPiano" ({ cls := "SandPiano", name := "asked", desc := "()I" } : Jvm.MethodName) ({ cls := "SandPiano", name := "asked", desc := "()I" } : Jvm.MethodName)) ∈ lw_all := lw_g (lw_at lw_m4 179 rfl) rfl
theorem q981 : (Jvm.Cond.code ({ cls := "SandPiano", name := "asked", desc := "()I" } : Jvm.MethodName) prog_1_method_77_code (1 : Nat) (Option.some Jvm.ClassFile.FieldType.int)) ∈ lw_all := lw_g (lw_at lw_m4 180 rfl) rfl
theorem q983 : (Jvm.Cond.instanceMethod ({ cls := "SandPiano", name := "upper", desc := "()J" } : Jvm.MethodName)) ∈ lw_all := lw_g (lw_at lw_m4 182 rfl) rfl
theorem q984 : (Jvm.Cond.selects "SandPiano" ({ cls := "SandPiano", name := "upper", desc := "()J" } : Jvm.MethodName) ({ cls := "SandPiano", name := "upper", desc := "()J" } : Jvm.MethodName)) ∈ lw_all := lw_g (lw_at lw_m4 183 rfl) rfl
theorem q985 : (Jvm.Cond.code ({ cls := "SandPiano", name := "upper", desc := "()J" } : Jvm.MethodName) prog_1_method_78_code (1 : Nat) (Option.some Jvm.ClassFile.FieldType.long)) ∈ lw_all := lw_g (lw_at lw_m4 184 rfl) rfl
theorem q987 : (Jvm.Cond.instanceMethod ({ cls := "SandPiano", name := "lower", desc := "()J" } : Jvm.MethodName)) ∈ lw_all := lw_g (lw_at lw_m4 186 rfl) rfl
theorem q988 : (Jvm.Cond.selects "SandPiano" ({ cls := "SandPiano", name := "lower", desc := "()J" } : Jvm.MethodName) ({ cls := "SandPiano", name := "lower", desc := "()J" } : Jvm.MethodName)) ∈ lw_all := lw_g (lw_at lw_m4 187 rfl) rfl
theorem q989 : (Jvm.Cond.code ({ cls := "SandPiano", name := "lower", desc := "()J" } : Jvm.MethodName) prog_1_method_79_code (1 : Nat) (Option.some Jvm.ClassFile.FieldType.long)) ∈ lw_all := lw_g (lw_at lw_m4 188 rfl) rfl
theorem q991 : (Jvm.Cond.instanceMethod ({ cls := "SandPiano", name := "count", desc := "(I)I" } : Jvm.MethodName)) ∈ lw_all := lw_g (lw_at lw_m4 190 rfl) rfl
theorem q992 : (Jvm.Cond.selects "SandPiano" ({ cls := "SandPiano", name := "count", desc := "(I)I" } : Jvm.MethodName) ({ cls := "SandPiano", name := "count", desc := "(I)I" } : Jvm.MethodName)) ∈ lw_all := lw_g (lw_at lw_m4 191 rfl) rfl
theorem q993 : (Jvm.Cond.code ({ cls := "SandPiano", name := "count", desc := "(I)I" } : Jvm.MethodName) prog_1_method_83_code (2 : Nat) (Option.some Jvm.ClassFile.FieldType.int)) ∈ lw_all := lw_g (lw_at lw_m4 192 rfl) rfl
theorem q994 : (Jvm.Cond.methodLink "SandPiano" (393 : Nat) ({ cls := "SandPiano", name := "countOf", desc := "(I)I" } : Jvm.MethodName)) ∈ lw_all := lw_g (lw_at lw_m4 193 rfl) rfl
theorem q995 : (Jvm.Cond.privateMethod ({ cls := "SandPiano", name := "countOf", desc := "(I)I" } : Jvm.MethodName)) ∈ lw_tbl := lw_at lw_m4 194 rfl
theorem q996 : (Jvm.Cond.instanceMethod ({ cls := "SandPiano", name := "countOf", desc := "(I)I" } : Jvm.MethodName)) ∈ lw_all := lw_g (lw_at lw_m4 195 rfl) rfl
theorem q997 : (Jvm.Cond.code ({ cls := "SandPiano", name := "countOf", desc := "(I)I" } : Jvm.MethodName) prog_1_method_82_code (2 : Nat) (Option.some Jvm.ClassFile.FieldType.int)) ∈ lw_all := lw_g (lw_at lw_m4 196 rfl) rfl
theorem q998 : (Jvm.Cond.methodLink "SandPiano" (387 : Nat) ({ cls := "SandPiano", name := "keysOf", desc := "(I)I" } : Jvm.MethodName)) ∈ lw_all := lw_g (lw_at lw_m4 197 rfl) rfl
theorem q999 : (Jvm.Cond.privateMethod ({ cls := "SandPiano", name := "keysOf", desc := "(I)I" } : Jvm.MethodName)) ∈ lw_tbl := lw_at lw_m4 198 rfl
theorem q1000 : (Jvm.Cond.instanceMethod ({ cls := "SandPiano", name := "keysOf", desc := "(I)I" } : Jvm.MethodName)) ∈ lw_all := lw_g (lw_at lw_m4 199 rfl) rfl
theorem q1001 : (Jvm.Cond.code ({ cls := "SandPiano", name := "keysOf", desc := "(I)I" } : Jvm.MethodName) prog_1_method_80_code (4 : Nat) (Option.some Jvm.ClassFile.FieldType.int)) ∈ lw_all := lw_g (lw_at lw_m4 200 rfl) rfl
theorem q1002 : (Jvm.Cond.methodLink "SandPiano" (384 : Nat) ({ cls := "SandPiano$Key", name := "is", desc := "(I)Z" } : Jvm.MethodName)) ∈ lw_all := lw_g (lw_at lw_m4 201 rfl) rfl
theorem q1027 : (Jvm.Cond.methodLink "SandPiano" (390 : Nat) ({ cls := "SandPiano", name := "thereOf", desc := "(I)I" } : Jvm.MethodName)) ∈ lw_all := lw_g (lw_at lw_m4 226 rfl) rfl
theorem q1028 : (Jvm.Cond.privateMethod ({ cls := "SandPiano", name := "thereOf", desc := "(I)I" } : Jvm.MethodName)) ∈ lw_tbl := lw_at lw_m4 227 rfl
theorem q1029 : (Jvm.Cond.instanceMethod ({ cls := "SandPiano", name := "thereOf", desc := "(I)I" } : Jvm.MethodName)) ∈ lw_all := lw_g (lw_at lw_m4 228 rfl) rfl
theorem q1030 : (Jvm.Cond.code ({ cls := "SandPiano", name := "thereOf", desc := "(I)I" } : Jvm.MethodName) prog_1_method_81_code (4 : Nat) (Option.some Jvm.ClassFile.FieldType.int)) ∈ lw_all := lw_g (lw_at lw_m4 229 rfl) rfl
theorem q1032 : (Jvm.Cond.instanceMethod ({ cls := "SandPiano", name := "finding", desc := "()I" } : Jvm.MethodName)) ∈ lw_all := lw_g (lw_at lw_m4 231 rfl) rfl
theorem q1033 : (Jvm.Cond.selects "SandPiano" ({ cls := "SandPiano", name := "finding", desc := "()I" } : Jvm.MethodName) ({ cls := "SandPiano", name := "finding", desc := "()I" } : Jvm.MethodName)) ∈ lw_all := lw_g (lw_at lw_m4 232 rfl) rfl
theorem q1034 : (Jvm.Cond.code ({ cls := "SandPiano", name := "finding", desc := "()I" } : Jvm.MethodName) prog_1_method_84_code (1 : Nat) (Option.some Jvm.ClassFile.FieldType.int)) ∈ lw_all := lw_g (lw_at lw_m4 233 rfl) rfl
theorem q1036 : (Jvm.Cond.instanceMethod ({ cls := "SandPiano", name := "findings", desc := "(I)I" } : Jvm.MethodName)) ∈ lw_all := lw_g (lw_at lw_m4 235 rfl) rfl
theorem q1037 : (Jvm.Cond.selects "SandPiano" ({ cls := "SandPiano", name := "findings", desc := "(I)I" } : Jvm.MethodName) ({ cls := "SandPiano", name := "findings", desc := "(I)I" } : Jvm.MethodName)) ∈ lw_all := lw_g (lw_at lw_m4 236 rfl) rfl
theorem q1038 : (Jvm.Cond.code ({ cls := "SandPiano", name := "findings", desc := "(I)I" } : Jvm.MethodName) prog_1_method_85_code (2 : Nat) (Option.some Jvm.ClassFile.FieldType.int)) ∈ lw_all := lw_g (lw_at lw_m4 237 rfl) rfl
theorem q1040 : (Jvm.Cond.instanceMethod ({ cls := "SandPiano", name := "digest", desc := "()J" } : Jvm.MethodName)) ∈ lw_all := lw_g (lw_at lw_m4 239 rfl) rfl
theorem q1041 : (Jvm.Cond.selects "SandPiano" ({ cls := "SandPiano", name := "digest", desc := "()J" } : Jvm.MethodName) ({ cls := "SandPiano", name := "digest", desc := "()J" } : Jvm.MethodName)) ∈ lw_all := lw_g (lw_at lw_m5 0 rfl) rfl
theorem q1042 : (Jvm.Cond.code ({ cls := "SandPiano", name := "digest", desc := "()J" } : Jvm.MethodName) prog_1_method_88_code (7 : Nat) (Option.some Jvm.ClassFile.FieldType.long)) ∈ lw_all := lw_g (lw_at lw_m5 1 rfl) rfl
theorem q1043 : (Jvm.Cond.constantLong "SandPiano" (405 : Nat) (17 : Int64)) ∈ lw_all := lw_g (lw_at lw_m5 2 rfl) rfl
theorem q1044 : (Jvm.Cond.methodLink "SandPiano" (401 : Nat) ({ cls := "SandPiano", name := "mix", desc := "(I)V" } : Jvm.MethodName)) ∈ lw_all := lw_g (lw_at lw_m5 3 rfl) rfl
theorem q1045 : (Jvm.Cond.privateMethod ({ cls := "SandPiano", name := "mix", desc := "(I)V" } : Jvm.MethodName)) ∈ lw_tbl := lw_at lw_m5 4 rfl
theorem q1046 : (Jvm.Cond.instanceMethod ({ cls := "SandPiano", name := "mix", desc := "(I)V" } : Jvm.MethodName)) ∈ lw_all := lw_g (lw_at lw_m5 5 rfl) rfl
theorem q1047 : (Jvm.Cond.code ({ cls := "SandPiano", name := "mix", desc := "(I)V" } : Jvm.MethodName) prog_1_method_86_code (2 : Nat) (Option.none : Option Jvm.ClassFile.FieldType)) ∈ lw_all := lw_g (lw_at lw_m5 6 rfl) rfl
theorem q1048 : (Jvm.Cond.constantLong "SandPiano" (396 : Nat) (31 : Int64)) ∈ lw_all := lw_g (lw_at lw_m5 7 rfl) rfl
theorem q1049 : (Jvm.Cond.methodLink "SandPiano" (407 : Nat) ({ cls := "SandPiano", name := "mixPiano", desc := "()V" } : Jvm.MethodName)) ∈ lw_all := lw_g (lw_at lw_m5 8 rfl) rfl
theorem q1050 : (Jvm.Cond.privateMethod ({ cls := "SandPiano", name := "mixPiano", desc := "()V" } : Jvm.MethodName)) ∈ lw_tbl := lw_at lw_m5 9 rfl
theorem q1051 : (Jvm.Cond.instanceMethod ({ cls := "SandPiano", name := "mixPiano", desc := "()V" } : Jvm.MethodName)) ∈ lw_all := lw_g (lw_at lw_m5 10 rfl) rfl
theorem q1052 : (Jvm.Cond.code ({ cls := "SandPiano", name := "mixPiano", desc := "()V" } : Jvm.MethodName) prog_1_method_87_code (5 : Nat) (Option.none : Option Jvm.ClassFile.FieldType)) ∈ lw_all := lw_g (lw_at lw_m5 11 rfl) rfl
theorem in_X0 : ∀ w ∈ wsX00, w ∈ lw_all := lw_in wsX00 [178, 180, 182, 184, 186, 188, 190, 192, 194, 196, 198, 200, 202, 204, 206, 208, 210, 212, 214, 216, 218, 220, 222, 224, 226, 228, 230, 232, 234, 236, 238, 240, 242, 244, 246, 248] (by decide +kernel) (by decide +kernel)
