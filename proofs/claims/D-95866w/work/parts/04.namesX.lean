/-! SandPiano$Sands -/
set_option maxRecDepth 100000
def RX1 : String := "SandPiano$Sands"
def TX1 : u_T := fun k => match k with
  | _ => ("SandPiano$Sands", "at", "[I", true)
def tyX1 : Nat → FieldType := fun k => match k with
  | _ => .array .int
abbrev wsX10 : List Cond := u_ws RX1 TX1 1
theorem nmX1 : ∀ a, a < 1 → ∀ b, b < 1 → a ≠ b → (TX1 a).2.1 ≠ (TX1 b).2.1 := by decide +kernel
theorem tyX1_ok : ∀ k, k < 1 → parseFieldDescriptor (TX1 k).2.2.1 = some (tyX1 k) := by decide +kernel
abbrev cX1_init : ByteArray := prog_8_method_1_code
def yX1_init : MethodName := ⟨RX1, "<init>", "()V"⟩
def dkwX1_init_0 : List UInt8 := [42, 183, 0, 3, 42, 16, 9, 188, 10, 181, 0, 9, 177]
abbrev dktX1_init_0 : List UInt8 := dkwX1_init_0 ++ []
theorem dksX1_init_0 : cX1_init.data.toList.drop 0 = dktX1_init_0 := by decide +kernel
theorem dX1_init_0 : decode cX1_init 0 = .ok (.aload_n 0, 1) := dk_42 (dk_at dksX1_init_0 0 rfl rfl)
theorem dX1_init_1 : decode cX1_init 1 = .ok (.invokespecial 3, 3) := dk_183 0 3 (dk_at dksX1_init_0 1 rfl rfl)
theorem dX1_init_4 : decode cX1_init 4 = .ok (.aload_n 0, 1) := dk_42 (dk_at dksX1_init_0 4 rfl rfl)
theorem dX1_init_5 : decode cX1_init 5 = .ok (.bipush 9, 2) := dk_16 9 (dk_at dksX1_init_0 5 rfl rfl)
theorem dX1_init_7 : decode cX1_init 7 = .ok (.newarray .int, 2) := dk_188_10 (dk_at dksX1_init_0 7 rfl rfl)
theorem dX1_init_9 : decode cX1_init 9 = .ok (.putfield 9, 3) := dk_181 0 9 (dk_at dksX1_init_0 9 rfl rfl)
theorem dX1_init_12 : decode cX1_init 12 = .ok (.return_, 1) := dk_177 (dk_at dksX1_init_0 12 rfl rfl)
abbrev cX1_move : ByteArray := prog_8_method_3_code
def yX1_move : MethodName := ⟨RX1, "move", "(III)I"⟩
def dkwX1_move_1 : List UInt8 := [180, 0, 9, 28, 92, 46, 21, 4, 96, 79, 21, 4, 172]
abbrev dktX1_move_1 : List UInt8 := dkwX1_move_1 ++ []
def dkwX1_move_0 : List UInt8 := [29, 42, 180, 0, 9, 27, 46, 184, 0, 21, 54, 4, 42, 180, 0, 9, 27, 92, 46, 21, 4, 100, 79, 42]
abbrev dktX1_move_0 : List UInt8 := dkwX1_move_0 ++ dktX1_move_1
theorem dksX1_move_0 : cX1_move.data.toList.drop 0 = dktX1_move_0 := by decide +kernel
theorem dksX1_move_1 : cX1_move.data.toList.drop 24 = dktX1_move_1 := dk_seg dksX1_move_0 24 rfl rfl
theorem dX1_move_0 : decode cX1_move 0 = .ok (.iload_n 3, 1) := dk_29 (dk_at dksX1_move_0 0 rfl rfl)
theorem dX1_move_1 : decode cX1_move 1 = .ok (.aload_n 0, 1) := dk_42 (dk_at dksX1_move_0 1 rfl rfl)
theorem dX1_move_2 : decode cX1_move 2 = .ok (.getfield 9, 3) := dk_180 0 9 (dk_at dksX1_move_0 2 rfl rfl)
theorem dX1_move_5 : decode cX1_move 5 = .ok (.iload_n 1, 1) := dk_27 (dk_at dksX1_move_0 5 rfl rfl)
theorem dX1_move_6 : decode cX1_move 6 = .ok (.iaload, 1) := dk_46 (dk_at dksX1_move_0 6 rfl rfl)
theorem dX1_move_7 : decode cX1_move 7 = .ok (.invokestatic 21, 3) := dk_184 0 21 (dk_at dksX1_move_0 7 rfl rfl)
theorem dX1_move_10 : decode cX1_move 10 = .ok (.istore 4, 2) := dk_54 4 (dk_at dksX1_move_0 10 rfl rfl)
theorem dX1_move_12 : decode cX1_move 12 = .ok (.aload_n 0, 1) := dk_42 (dk_at dksX1_move_0 12 rfl rfl)
theorem dX1_move_13 : decode cX1_move 13 = .ok (.getfield 9, 3) := dk_180 0 9 (dk_at dksX1_move_0 13 rfl rfl)
theorem dX1_move_16 : decode cX1_move 16 = .ok (.iload_n 1, 1) := dk_27 (dk_at dksX1_move_0 16 rfl rfl)
theorem dX1_move_17 : decode cX1_move 17 = .ok (.dup2, 1) := dk_92 (dk_at dksX1_move_0 17 rfl rfl)
theorem dX1_move_18 : decode cX1_move 18 = .ok (.iaload, 1) := dk_46 (dk_at dksX1_move_0 18 rfl rfl)
theorem dX1_move_19 : decode cX1_move 19 = .ok (.iload 4, 2) := dk_21 4 (dk_at dksX1_move_0 19 rfl rfl)
theorem dX1_move_21 : decode cX1_move 21 = .ok (.isub, 1) := dk_100 (dk_at dksX1_move_0 21 rfl rfl)
theorem dX1_move_22 : decode cX1_move 22 = .ok (.iastore, 1) := dk_79 (dk_at dksX1_move_0 22 rfl rfl)
theorem dX1_move_23 : decode cX1_move 23 = .ok (.aload_n 0, 1) := dk_42 (dk_at dksX1_move_0 23 rfl rfl)
theorem dX1_move_24 : decode cX1_move 24 = .ok (.getfield 9, 3) := dk_180 0 9 (dk_at dksX1_move_1 0 rfl rfl)
theorem dX1_move_27 : decode cX1_move 27 = .ok (.iload_n 2, 1) := dk_28 (dk_at dksX1_move_1 3 rfl rfl)
theorem dX1_move_28 : decode cX1_move 28 = .ok (.dup2, 1) := dk_92 (dk_at dksX1_move_1 4 rfl rfl)
theorem dX1_move_29 : decode cX1_move 29 = .ok (.iaload, 1) := dk_46 (dk_at dksX1_move_1 5 rfl rfl)
theorem dX1_move_30 : decode cX1_move 30 = .ok (.iload 4, 2) := dk_21 4 (dk_at dksX1_move_1 6 rfl rfl)
theorem dX1_move_32 : decode cX1_move 32 = .ok (.iadd, 1) := dk_96 (dk_at dksX1_move_1 8 rfl rfl)
theorem dX1_move_33 : decode cX1_move 33 = .ok (.iastore, 1) := dk_79 (dk_at dksX1_move_1 9 rfl rfl)
theorem dX1_move_34 : decode cX1_move 34 = .ok (.iload 4, 2) := dk_21 4 (dk_at dksX1_move_1 10 rfl rfl)
theorem dX1_move_36 : decode cX1_move 36 = .ok (.ireturn, 1) := dk_172 (dk_at dksX1_move_1 12 rfl rfl)
abbrev cX1_take : ByteArray := prog_8_method_2_code
def yX1_take : MethodName := ⟨RX1, "take", "(LSandPiano$Sands;)V"⟩
def dkwX1_take_0 : List UInt8 := [43, 180, 0, 9, 3, 42, 180, 0, 9, 3, 16, 9, 184, 0, 15, 177]
abbrev dktX1_take_0 : List UInt8 := dkwX1_take_0 ++ []
theorem dksX1_take_0 : cX1_take.data.toList.drop 0 = dktX1_take_0 := by decide +kernel
theorem dX1_take_0 : decode cX1_take 0 = .ok (.aload_n 1, 1) := dk_43 (dk_at dksX1_take_0 0 rfl rfl)
theorem dX1_take_1 : decode cX1_take 1 = .ok (.getfield 9, 3) := dk_180 0 9 (dk_at dksX1_take_0 1 rfl rfl)
theorem dX1_take_4 : decode cX1_take 4 = .ok (.iconst 0, 1) := dk_3 (dk_at dksX1_take_0 4 rfl rfl)
theorem dX1_take_5 : decode cX1_take 5 = .ok (.aload_n 0, 1) := dk_42 (dk_at dksX1_take_0 5 rfl rfl)
theorem dX1_take_6 : decode cX1_take 6 = .ok (.getfield 9, 3) := dk_180 0 9 (dk_at dksX1_take_0 6 rfl rfl)
theorem dX1_take_9 : decode cX1_take 9 = .ok (.iconst 0, 1) := dk_3 (dk_at dksX1_take_0 9 rfl rfl)
theorem dX1_take_10 : decode cX1_take 10 = .ok (.bipush 9, 2) := dk_16 9 (dk_at dksX1_take_0 10 rfl rfl)
theorem dX1_take_12 : decode cX1_take 12 = .ok (.invokestatic 15, 3) := dk_184 0 15 (dk_at dksX1_take_0 12 rfl rfl)
theorem dX1_take_15 : decode cX1_take 15 = .ok (.return_, 1) := dk_177 (dk_at dksX1_take_0 15 rfl rfl)
theorem q83 : (Jvm.Cond.initialized "SandPiano$Sands") ∈ lw_all := lw_g (lw_at lw_m1 2 rfl) rfl
theorem q120 : (Jvm.Cond.instantiable "SandPiano$Sands" (1 : Nat)) ∈ lw_all := lw_g (lw_at lw_m1 39 rfl) rfl
theorem q122 : (Jvm.Cond.instanceMethod ({ cls := "SandPiano$Sands", name := "<init>", desc := "()V" } : Jvm.MethodName)) ∈ lw_all := lw_g (lw_at lw_m1 41 rfl) rfl
theorem q123 : (Jvm.Cond.code ({ cls := "SandPiano$Sands", name := "<init>", desc := "()V" } : Jvm.MethodName) prog_8_method_1_code (1 : Nat) (Option.none : Option Jvm.ClassFile.FieldType)) ∈ lw_all := lw_g (lw_at lw_m1 42 rfl) rfl
theorem q124 : (Jvm.Cond.methodLink "SandPiano$Sands" (3 : Nat) ({ cls := "java/lang/Object", name := "<init>", desc := "()V" } : Jvm.MethodName)) ∈ lw_all := lw_g (lw_at lw_m1 43 rfl) rfl
theorem q125 : (Jvm.Cond.fieldLink "SandPiano$Sands" (9 : Nat) "SandPiano$Sands" "at" "[I") ∈ lw_all := lw_g (lw_at lw_m1 44 rfl) rfl
theorem q131 : (Jvm.Cond.laysFinal "SandPiano$Sands" "SandPiano$Sands" "at" "[I") ∈ lw_all := lw_g (lw_at lw_m1 50 rfl) rfl
theorem q132 : (Jvm.Cond.soleField "SandPiano$Sands" "at") ∈ lw_all := lw_g (lw_at lw_m1 51 rfl) rfl
theorem q133 : (Jvm.Cond.superclass "SandPiano$Sands" "java/lang/Object") ∈ lw_all := lw_g (lw_at lw_m1 52 rfl) rfl
theorem q738 : (Jvm.Cond.instanceMethod ({ cls := "SandPiano$Sands", name := "move", desc := "(III)I" } : Jvm.MethodName)) ∈ lw_all := lw_g (lw_at lw_m3 177 rfl) rfl
theorem q739 : (Jvm.Cond.selects "SandPiano$Sands" ({ cls := "SandPiano$Sands", name := "move", desc := "(III)I" } : Jvm.MethodName) ({ cls := "SandPiano$Sands", name := "move", desc := "(III)I" } : Jvm.MethodName)) ∈ lw_all := lw_g (lw_at lw_m3 178 rfl) rfl
theorem q740 : (Jvm.Cond.code ({ cls := "SandPiano$Sands", name := "move", desc := "(III)I" } : Jvm.MethodName) prog_8_method_3_code (5 : Nat) (Option.some Jvm.ClassFile.FieldType.int)) ∈ lw_all := lw_g (lw_at lw_m3 179 rfl) rfl
theorem q741 : (Jvm.Cond.methodLink "SandPiano$Sands" (21 : Nat) ({ cls := "java/lang/Math", name := "min", desc := "(II)I" } : Jvm.MethodName)) ∈ lw_all := lw_g (lw_at lw_m3 180 rfl) rfl
theorem q833 : (Jvm.Cond.instanceMethod ({ cls := "SandPiano$Sands", name := "take", desc := "(LSandPiano$Sands;)V" } : Jvm.MethodName)) ∈ lw_all := lw_g (lw_at lw_m4 32 rfl) rfl
theorem q834 : (Jvm.Cond.selects "SandPiano$Sands" ({ cls := "SandPiano$Sands", name := "take", desc := "(LSandPiano$Sands;)V" } : Jvm.MethodName) ({ cls := "SandPiano$Sands", name := "take", desc := "(LSandPiano$Sands;)V" } : Jvm.MethodName)) ∈ lw_all := lw_g (lw_at lw_m4 33 rfl) rfl
theorem q835 : (Jvm.Cond.code ({ cls := "SandPiano$Sands", name := "take", desc := "(LSandPiano$Sands;)V" } : Jvm.MethodName) prog_8_method_2_code (2 : Nat) (Option.none : Option Jvm.ClassFile.FieldType)) ∈ lw_all := lw_g (lw_at lw_m4 34 rfl) rfl
theorem q836 : (Jvm.Cond.methodLink "SandPiano$Sands" (15 : Nat) ({ cls := "java/lang/System", name := "arraycopy", desc := "(Ljava/lang/Object;ILjava/lang/Object;II)V" } : Jvm.MethodName)) ∈ lw_all := lw_g (lw_at lw_m4 35 rfl) rfl
theorem in_X1 : ∀ w ∈ wsX10, w ∈ lw_all := lw_in wsX10 [131] (by decide +kernel) (by decide +kernel)

/-! SandPiano$Key -/
set_option maxRecDepth 100000
def RX3 : String := "SandPiano$Key"
def TX3 : u_T := fun k => match k with
  | 0 => ("SandPiano$Key", "place", "I", true)
  | 1 => ("SandPiano$Key", "strength", "I", true)
  | _ => ("SandPiano$Key", "pay", "I", true)
def tyX3 : Nat → FieldType := fun k => match k with
  | 0 => .int
  | 1 => .int
  | _ => .int
abbrev wsX30 : List Cond := u_ws RX3 TX3 3
theorem nmX3 : ∀ a, a < 3 → ∀ b, b < 3 → a ≠ b → (TX3 a).2.1 ≠ (TX3 b).2.1 := by decide +kernel
theorem tyX3_ok : ∀ k, k < 3 → parseFieldDescriptor (TX3 k).2.2.1 = some (tyX3 k) := by decide +kernel
abbrev cX3_init : ByteArray := prog_6_method_1_code
def yX3_init : MethodName := ⟨RX3, "<init>", "(III)V"⟩
def dkwX3_init_0 : List UInt8 := [42, 183, 0, 3, 42, 27, 181, 0, 9, 42, 28, 181, 0, 15, 42, 29, 181, 0, 18, 177]
abbrev dktX3_init_0 : List UInt8 := dkwX3_init_0 ++ []
theorem dksX3_init_0 : cX3_init.data.toList.drop 0 = dktX3_init_0 := by decide +kernel
theorem dX3_init_0 : decode cX3_init 0 = .ok (.aload_n 0, 1) := dk_42 (dk_at dksX3_init_0 0 rfl rfl)
theorem dX3_init_1 : decode cX3_init 1 = .ok (.invokespecial 3, 3) := dk_183 0 3 (dk_at dksX3_init_0 1 rfl rfl)
theorem dX3_init_4 : decode cX3_init 4 = .ok (.aload_n 0, 1) := dk_42 (dk_at dksX3_init_0 4 rfl rfl)
theorem dX3_init_5 : decode cX3_init 5 = .ok (.iload_n 1, 1) := dk_27 (dk_at dksX3_init_0 5 rfl rfl)
theorem dX3_init_6 : decode cX3_init 6 = .ok (.putfield 9, 3) := dk_181 0 9 (dk_at dksX3_init_0 6 rfl rfl)
theorem dX3_init_9 : decode cX3_init 9 = .ok (.aload_n 0, 1) := dk_42 (dk_at dksX3_init_0 9 rfl rfl)
theorem dX3_init_10 : decode cX3_init 10 = .ok (.iload_n 2, 1) := dk_28 (dk_at dksX3_init_0 10 rfl rfl)
theorem dX3_init_11 : decode cX3_init 11 = .ok (.putfield 15, 3) := dk_181 0 15 (dk_at dksX3_init_0 11 rfl rfl)
theorem dX3_init_14 : decode cX3_init 14 = .ok (.aload_n 0, 1) := dk_42 (dk_at dksX3_init_0 14 rfl rfl)
theorem dX3_init_15 : decode cX3_init 15 = .ok (.iload_n 3, 1) := dk_29 (dk_at dksX3_init_0 15 rfl rfl)
theorem dX3_init_16 : decode cX3_init 16 = .ok (.putfield 18, 3) := dk_181 0 18 (dk_at dksX3_init_0 16 rfl rfl)
theorem dX3_init_19 : decode cX3_init 19 = .ok (.return_, 1) := dk_177 (dk_at dksX3_init_0 19 rfl rfl)
abbrev cX3_kind : ByteArray := prog_6_method_2_code
def yX3_kind : MethodName := ⟨RX3, "kind", "()I"⟩
theorem dX3_kind_0 : decode cX3_kind 0 = .ok (.iconst 0, 1) := by decide +kernel
theorem dX3_kind_1 : decode cX3_kind 1 = .ok (.ireturn, 1) := by decide +kernel
abbrev cX3_strength : ByteArray := prog_6_method_7_code
def yX3_strength : MethodName := ⟨RX3, "strength", "()I"⟩
theorem dX3_strength_0 : decode cX3_strength 0 = .ok (.aload_n 0, 1) := by decide +kernel
theorem dX3_strength_1 : decode cX3_strength 1 = .ok (.getfield 15, 3) := by decide +kernel
theorem dX3_strength_4 : decode cX3_strength 4 = .ok (.ireturn, 1) := by decide +kernel
abbrev cX3_pay : ByteArray := prog_6_method_8_code
def yX3_pay : MethodName := ⟨RX3, "pay", "()I"⟩
theorem dX3_pay_0 : decode cX3_pay 0 = .ok (.aload_n 0, 1) := by decide +kernel
theorem dX3_pay_1 : decode cX3_pay 1 = .ok (.getfield 18, 3) := by decide +kernel
theorem dX3_pay_4 : decode cX3_pay 4 = .ok (.ireturn, 1) := by decide +kernel
abbrev cX3_plays : ByteArray := prog_6_method_5_code
def yX3_plays : MethodName := ⟨RX3, "plays", "(LSandPiano$Sands;)Z"⟩
def dkwX3_plays_0 : List UInt8 := [43, 180, 0, 21, 42, 180, 0, 9, 46, 42, 182, 0, 27, 163, 0, 7, 4, 167, 0, 4, 3, 172]
abbrev dktX3_plays_0 : List UInt8 := dkwX3_plays_0 ++ []
theorem dksX3_plays_0 : cX3_plays.data.toList.drop 0 = dktX3_plays_0 := by decide +kernel
theorem dX3_plays_0 : decode cX3_plays 0 = .ok (.aload_n 1, 1) := dk_43 (dk_at dksX3_plays_0 0 rfl rfl)
theorem dX3_plays_1 : decode cX3_plays 1 = .ok (.getfield 21, 3) := dk_180 0 21 (dk_at dksX3_plays_0 1 rfl rfl)
theorem dX3_plays_4 : decode cX3_plays 4 = .ok (.aload_n 0, 1) := dk_42 (dk_at dksX3_plays_0 4 rfl rfl)
theorem dX3_plays_5 : decode cX3_plays 5 = .ok (.getfield 9, 3) := dk_180 0 9 (dk_at dksX3_plays_0 5 rfl rfl)
theorem dX3_plays_8 : decode cX3_plays 8 = .ok (.iaload, 1) := dk_46 (dk_at dksX3_plays_0 8 rfl rfl)
theorem dX3_plays_9 : decode cX3_plays 9 = .ok (.aload_n 0, 1) := dk_42 (dk_at dksX3_plays_0 9 rfl rfl)
theorem dX3_plays_10 : decode cX3_plays 10 = .ok (.invokevirtual 27, 3) := dk_182 0 27 (dk_at dksX3_plays_0 10 rfl rfl)
theorem dX3_plays_13 : decode cX3_plays 13 = .ok (.if_icmp .gt 7, 3) := dk_163 0 7 (dk_at dksX3_plays_0 13 rfl rfl)
theorem dX3_plays_16 : decode cX3_plays 16 = .ok (.iconst 1, 1) := dk_4 (dk_at dksX3_plays_0 16 rfl rfl)
theorem dX3_plays_17 : decode cX3_plays 17 = .ok (.goto 4, 3) := dk_167 0 4 (dk_at dksX3_plays_0 17 rfl rfl)
theorem dX3_plays_20 : decode cX3_plays 20 = .ok (.iconst 0, 1) := dk_3 (dk_at dksX3_plays_0 20 rfl rfl)
theorem dX3_plays_21 : decode cX3_plays 21 = .ok (.ireturn, 1) := dk_172 (dk_at dksX3_plays_0 21 rfl rfl)
abbrev cX3_bears : ByteArray := prog_6_method_4_code
def yX3_bears : MethodName := ⟨RX3, "bears", "()I"⟩
theorem dX3_bears_0 : decode cX3_bears 0 = .ok (.aload_n 0, 1) := by decide +kernel
theorem dX3_bears_1 : decode cX3_bears 1 = .ok (.getfield 15, 3) := by decide +kernel
theorem dX3_bears_4 : decode cX3_bears 4 = .ok (.ireturn, 1) := by decide +kernel
abbrev cX3_place : ByteArray := prog_6_method_6_code
def yX3_place : MethodName := ⟨RX3, "place", "()I"⟩
theorem dX3_place_0 : decode cX3_place 0 = .ok (.aload_n 0, 1) := by decide +kernel
theorem dX3_place_1 : decode cX3_place 1 = .ok (.getfield 9, 3) := by decide +kernel
theorem dX3_place_4 : decode cX3_place 4 = .ok (.ireturn, 1) := by decide +kernel
abbrev cX3_left : ByteArray := prog_6_method_9_code
def yX3_left : MethodName := ⟨RX3, "left", "()I"⟩
def dkwX3_left_0 : List UInt8 := [42, 180, 0, 9, 154, 0, 8, 16, 6, 167, 0, 9, 42, 180, 0, 9, 4, 100, 172]
abbrev dktX3_left_0 : List UInt8 := dkwX3_left_0 ++ []
theorem dksX3_left_0 : cX3_left.data.toList.drop 0 = dktX3_left_0 := by decide +kernel
theorem dX3_left_0 : decode cX3_left 0 = .ok (.aload_n 0, 1) := dk_42 (dk_at dksX3_left_0 0 rfl rfl)
theorem dX3_left_1 : decode cX3_left 1 = .ok (.getfield 9, 3) := dk_180 0 9 (dk_at dksX3_left_0 1 rfl rfl)
theorem dX3_left_4 : decode cX3_left 4 = .ok (.ifCond .ne 8, 3) := dk_154 0 8 (dk_at dksX3_left_0 4 rfl rfl)
theorem dX3_left_7 : decode cX3_left 7 = .ok (.bipush 6, 2) := dk_16 6 (dk_at dksX3_left_0 7 rfl rfl)
theorem dX3_left_9 : decode cX3_left 9 = .ok (.goto 9, 3) := dk_167 0 9 (dk_at dksX3_left_0 9 rfl rfl)
theorem dX3_left_12 : decode cX3_left 12 = .ok (.aload_n 0, 1) := dk_42 (dk_at dksX3_left_0 12 rfl rfl)
theorem dX3_left_13 : decode cX3_left 13 = .ok (.getfield 9, 3) := dk_180 0 9 (dk_at dksX3_left_0 13 rfl rfl)
theorem dX3_left_16 : decode cX3_left 16 = .ok (.iconst 1, 1) := dk_4 (dk_at dksX3_left_0 16 rfl rfl)
theorem dX3_left_17 : decode cX3_left 17 = .ok (.isub, 1) := dk_100 (dk_at dksX3_left_0 17 rfl rfl)
theorem dX3_left_18 : decode cX3_left 18 = .ok (.ireturn, 1) := dk_172 (dk_at dksX3_left_0 18 rfl rfl)
abbrev cX3_right : ByteArray := prog_6_method_10_code
def yX3_right : MethodName := ⟨RX3, "right", "(I)I"⟩
def dkwX3_right_0 : List UInt8 := [42, 180, 0, 9, 27, 4, 100, 160, 0, 8, 16, 6, 167, 0, 9, 42, 180, 0, 9, 4, 96, 172]
abbrev dktX3_right_0 : List UInt8 := dkwX3_right_0 ++ []
theorem dksX3_right_0 : cX3_right.data.toList.drop 0 = dktX3_right_0 := by decide +kernel
theorem dX3_right_0 : decode cX3_right 0 = .ok (.aload_n 0, 1) := dk_42 (dk_at dksX3_right_0 0 rfl rfl)
theorem dX3_right_1 : decode cX3_right 1 = .ok (.getfield 9, 3) := dk_180 0 9 (dk_at dksX3_right_0 1 rfl rfl)
theorem dX3_right_4 : decode cX3_right 4 = .ok (.iload_n 1, 1) := dk_27 (dk_at dksX3_right_0 4 rfl rfl)
theorem dX3_right_5 : decode cX3_right 5 = .ok (.iconst 1, 1) := dk_4 (dk_at dksX3_right_0 5 rfl rfl)
theorem dX3_right_6 : decode cX3_right 6 = .ok (.isub, 1) := dk_100 (dk_at dksX3_right_0 6 rfl rfl)
theorem dX3_right_7 : decode cX3_right 7 = .ok (.if_icmp .ne 8, 3) := dk_160 0 8 (dk_at dksX3_right_0 7 rfl rfl)
theorem dX3_right_10 : decode cX3_right 10 = .ok (.bipush 6, 2) := dk_16 6 (dk_at dksX3_right_0 10 rfl rfl)
theorem dX3_right_12 : decode cX3_right 12 = .ok (.goto 9, 3) := dk_167 0 9 (dk_at dksX3_right_0 12 rfl rfl)
theorem dX3_right_15 : decode cX3_right 15 = .ok (.aload_n 0, 1) := dk_42 (dk_at dksX3_right_0 15 rfl rfl)
theorem dX3_right_16 : decode cX3_right 16 = .ok (.getfield 9, 3) := dk_180 0 9 (dk_at dksX3_right_0 16 rfl rfl)
theorem dX3_right_19 : decode cX3_right 19 = .ok (.iconst 1, 1) := dk_4 (dk_at dksX3_right_0 19 rfl rfl)
theorem dX3_right_20 : decode cX3_right 20 = .ok (.iadd, 1) := dk_96 (dk_at dksX3_right_0 20 rfl rfl)
theorem dX3_right_21 : decode cX3_right 21 = .ok (.ireturn, 1) := dk_172 (dk_at dksX3_right_0 21 rfl rfl)
abbrev cX3_throwSand : ByteArray := prog_6_method_11_code
def yX3_throwSand : MethodName := ⟨RX3, "throwSand", "(LSandPiano$Sands;I)V"⟩
def dkwX3_throwSand_0 : List UInt8 := [43, 42, 180, 0, 9, 42, 28, 182, 0, 31, 4, 182, 0, 35, 87, 177]
abbrev dktX3_throwSand_0 : List UInt8 := dkwX3_throwSand_0 ++ []
theorem dksX3_throwSand_0 : cX3_throwSand.data.toList.drop 0 = dktX3_throwSand_0 := by decide +kernel
theorem dX3_throwSand_0 : decode cX3_throwSand 0 = .ok (.aload_n 1, 1) := dk_43 (dk_at dksX3_throwSand_0 0 rfl rfl)
theorem dX3_throwSand_1 : decode cX3_throwSand 1 = .ok (.aload_n 0, 1) := dk_42 (dk_at dksX3_throwSand_0 1 rfl rfl)
theorem dX3_throwSand_2 : decode cX3_throwSand 2 = .ok (.getfield 9, 3) := dk_180 0 9 (dk_at dksX3_throwSand_0 2 rfl rfl)
theorem dX3_throwSand_5 : decode cX3_throwSand 5 = .ok (.aload_n 0, 1) := dk_42 (dk_at dksX3_throwSand_0 5 rfl rfl)
theorem dX3_throwSand_6 : decode cX3_throwSand 6 = .ok (.iload_n 2, 1) := dk_28 (dk_at dksX3_throwSand_0 6 rfl rfl)
theorem dX3_throwSand_7 : decode cX3_throwSand 7 = .ok (.invokevirtual 31, 3) := dk_182 0 31 (dk_at dksX3_throwSand_0 7 rfl rfl)
theorem dX3_throwSand_10 : decode cX3_throwSand 10 = .ok (.iconst 1, 1) := dk_4 (dk_at dksX3_throwSand_0 10 rfl rfl)
theorem dX3_throwSand_11 : decode cX3_throwSand 11 = .ok (.invokevirtual 35, 3) := dk_182 0 35 (dk_at dksX3_throwSand_0 11 rfl rfl)
theorem dX3_throwSand_14 : decode cX3_throwSand 14 = .ok (.pop, 1) := dk_87 (dk_at dksX3_throwSand_0 14 rfl rfl)
theorem dX3_throwSand_15 : decode cX3_throwSand 15 = .ok (.return_, 1) := dk_177 (dk_at dksX3_throwSand_0 15 rfl rfl)
abbrev cX3_is : ByteArray := prog_6_method_3_code
def yX3_is : MethodName := ⟨RX3, "is", "(I)Z"⟩
def dkwX3_is_0 : List UInt8 := [27, 154, 0, 7, 4, 167, 0, 4, 3, 172]
abbrev dktX3_is_0 : List UInt8 := dkwX3_is_0 ++ []
theorem dksX3_is_0 : cX3_is.data.toList.drop 0 = dktX3_is_0 := by decide +kernel
theorem dX3_is_0 : decode cX3_is 0 = .ok (.iload_n 1, 1) := dk_27 (dk_at dksX3_is_0 0 rfl rfl)
theorem dX3_is_1 : decode cX3_is 1 = .ok (.ifCond .ne 7, 3) := dk_154 0 7 (dk_at dksX3_is_0 1 rfl rfl)
theorem dX3_is_4 : decode cX3_is 4 = .ok (.iconst 1, 1) := dk_4 (dk_at dksX3_is_0 4 rfl rfl)
theorem dX3_is_5 : decode cX3_is 5 = .ok (.goto 4, 3) := dk_167 0 4 (dk_at dksX3_is_0 5 rfl rfl)
theorem dX3_is_8 : decode cX3_is 8 = .ok (.iconst 0, 1) := dk_3 (dk_at dksX3_is_0 8 rfl rfl)
theorem dX3_is_9 : decode cX3_is 9 = .ok (.ireturn, 1) := dk_172 (dk_at dksX3_is_0 9 rfl rfl)
theorem q95 : (Jvm.Cond.initialized "SandPiano$Key") ∈ lw_all := lw_g (lw_at lw_m1 14 rfl) rfl
theorem q126 : (Jvm.Cond.fieldLinkNest "SandPiano$Key" (21 : Nat) "SandPiano$Sands" "at" "[I" "SandPiano") ∈ lw_tbl := lw_at lw_m1 45 rfl
theorem q486 : (Jvm.Cond.instanceMethod ({ cls := "SandPiano$Key", name := "<init>", desc := "(III)V" } : Jvm.MethodName)) ∈ lw_all := lw_g (lw_at lw_m2 165 rfl) rfl
theorem q487 : (Jvm.Cond.code ({ cls := "SandPiano$Key", name := "<init>", desc := "(III)V" } : Jvm.MethodName) prog_6_method_1_code (4 : Nat) (Option.none : Option Jvm.ClassFile.FieldType)) ∈ lw_all := lw_g (lw_at lw_m2 166 rfl) rfl
theorem q488 : (Jvm.Cond.methodLink "SandPiano$Key" (3 : Nat) ({ cls := "java/lang/Object", name := "<init>", desc := "()V" } : Jvm.MethodName)) ∈ lw_all := lw_g (lw_at lw_m2 167 rfl) rfl
theorem q489 : (Jvm.Cond.fieldLink "SandPiano$Key" (9 : Nat) "SandPiano$Key" "place" "I") ∈ lw_all := lw_g (lw_at lw_m2 168 rfl) rfl
theorem q490 : (Jvm.Cond.fieldLink "SandPiano$Key" (15 : Nat) "SandPiano$Key" "strength" "I") ∈ lw_all := lw_g (lw_at lw_m2 169 rfl) rfl
theorem q491 : (Jvm.Cond.fieldLink "SandPiano$Key" (18 : Nat) "SandPiano$Key" "pay" "I") ∈ lw_all := lw_g (lw_at lw_m2 170 rfl) rfl
theorem q493 : (Jvm.Cond.soleField "SandPiano$Key" "place") ∈ lw_all := lw_g (lw_at lw_m2 172 rfl) rfl
theorem q495 : (Jvm.Cond.soleField "SandPiano$Key" "strength") ∈ lw_all := lw_g (lw_at lw_m2 174 rfl) rfl
theorem q497 : (Jvm.Cond.soleField "SandPiano$Key" "pay") ∈ lw_all := lw_g (lw_at lw_m2 176 rfl) rfl
theorem q539 : (Jvm.Cond.instantiable "SandPiano$Key" (3 : Nat)) ∈ lw_all := lw_g (lw_at lw_m2 218 rfl) rfl
theorem q541 : (Jvm.Cond.laysFinal "SandPiano$Key" "SandPiano$Key" "place" "I") ∈ lw_all := lw_g (lw_at lw_m2 220 rfl) rfl
theorem q542 : (Jvm.Cond.laysFinal "SandPiano$Key" "SandPiano$Key" "strength" "I") ∈ lw_all := lw_g (lw_at lw_m2 221 rfl) rfl
theorem q543 : (Jvm.Cond.laysFinal "SandPiano$Key" "SandPiano$Key" "pay" "I") ∈ lw_all := lw_g (lw_at lw_m2 222 rfl) rfl
theorem q544 : (Jvm.Cond.superclass "SandPiano$Key" "java/lang/Object") ∈ lw_all := lw_g (lw_at lw_m2 223 rfl) rfl
theorem q558 : (Jvm.Cond.instanceMethod ({ cls := "SandPiano$Key", name := "kind", desc := "()I" } : Jvm.MethodName)) ∈ lw_all := lw_g (lw_at lw_m2 237 rfl) rfl
theorem q559 : (Jvm.Cond.selects "SandPiano$Key" ({ cls := "SandPiano$Key", name := "kind", desc := "()I" } : Jvm.MethodName) ({ cls := "SandPiano$Key", name := "kind", desc := "()I" } : Jvm.MethodName)) ∈ lw_all := lw_g (lw_at lw_m2 238 rfl) rfl
theorem q560 : (Jvm.Cond.sameMethod "SandPiano$Key" "SandPiano$Key" "kind" "()I") ∈ lw_all := lw_g (lw_at lw_m2 239 rfl) rfl
theorem q576 : (Jvm.Cond.code ({ cls := "SandPiano$Key", name := "kind", desc := "()I" } : Jvm.MethodName) prog_6_method_2_code (1 : Nat) (Option.some Jvm.ClassFile.FieldType.int)) ∈ lw_all := lw_g (lw_at lw_m3 15 rfl) rfl
theorem q578 : (Jvm.Cond.instanceMethod ({ cls := "SandPiano$Key", name := "strength", desc := "()I" } : Jvm.MethodName)) ∈ lw_all := lw_g (lw_at lw_m3 17 rfl) rfl
theorem q579 : (Jvm.Cond.selects "SandPiano$Key" ({ cls := "SandPiano$Key", name := "strength", desc := "()I" } : Jvm.MethodName) ({ cls := "SandPiano$Key", name := "strength", desc := "()I" } : Jvm.MethodName)) ∈ lw_all := lw_g (lw_at lw_m3 18 rfl) rfl
theorem q580 : (Jvm.Cond.sameMethod "SandPiano$Key" "SandPiano$Key" "strength" "()I") ∈ lw_all := lw_g (lw_at lw_m3 19 rfl) rfl
theorem q586 : (Jvm.Cond.code ({ cls := "SandPiano$Key", name := "strength", desc := "()I" } : Jvm.MethodName) prog_6_method_7_code (1 : Nat) (Option.some Jvm.ClassFile.FieldType.int)) ∈ lw_all := lw_g (lw_at lw_m3 25 rfl) rfl
theorem q588 : (Jvm.Cond.instanceMethod ({ cls := "SandPiano$Key", name := "pay", desc := "()I" } : Jvm.MethodName)) ∈ lw_all := lw_g (lw_at lw_m3 27 rfl) rfl
theorem q589 : (Jvm.Cond.selects "SandPiano$Key" ({ cls := "SandPiano$Key", name := "pay", desc := "()I" } : Jvm.MethodName) ({ cls := "SandPiano$Key", name := "pay", desc := "()I" } : Jvm.MethodName)) ∈ lw_all := lw_g (lw_at lw_m3 28 rfl) rfl
theorem q590 : (Jvm.Cond.sameMethod "SandPiano$Key" "SandPiano$Key" "pay" "()I") ∈ lw_all := lw_g (lw_at lw_m3 29 rfl) rfl
theorem q596 : (Jvm.Cond.code ({ cls := "SandPiano$Key", name := "pay", desc := "()I" } : Jvm.MethodName) prog_6_method_8_code (1 : Nat) (Option.some Jvm.ClassFile.FieldType.int)) ∈ lw_all := lw_g (lw_at lw_m3 35 rfl) rfl
theorem q598 : (Jvm.Cond.instanceMethod ({ cls := "SandPiano$Key", name := "plays", desc := "(LSandPiano$Sands;)Z" } : Jvm.MethodName)) ∈ lw_all := lw_g (lw_at lw_m3 37 rfl) rfl
theorem q599 : (Jvm.Cond.selects "SandPiano$Key" ({ cls := "SandPiano$Key", name := "plays", desc := "(LSandPiano$Sands;)Z" } : Jvm.MethodName) ({ cls := "SandPiano$Key", name := "plays", desc := "(LSandPiano$Sands;)Z" } : Jvm.MethodName)) ∈ lw_all := lw_g (lw_at lw_m3 38 rfl) rfl
theorem q600 : (Jvm.Cond.sameMethod "SandPiano$Key" "SandPiano$Key" "plays" "(LSandPiano$Sands;)Z") ∈ lw_all := lw_g (lw_at lw_m3 39 rfl) rfl
theorem q606 : (Jvm.Cond.code ({ cls := "SandPiano$Key", name := "plays", desc := "(LSandPiano$Sands;)Z" } : Jvm.MethodName) prog_6_method_5_code (2 : Nat) (Option.some Jvm.ClassFile.FieldType.boolean)) ∈ lw_all := lw_g (lw_at lw_m3 45 rfl) rfl
theorem q607 : (Jvm.Cond.methodLink "SandPiano$Key" (27 : Nat) ({ cls := "SandPiano$Key", name := "bears", desc := "()I" } : Jvm.MethodName)) ∈ lw_all := lw_g (lw_at lw_m3 46 rfl) rfl
theorem q608 : (Jvm.Cond.instanceMethod ({ cls := "SandPiano$Key", name := "bears", desc := "()I" } : Jvm.MethodName)) ∈ lw_all := lw_g (lw_at lw_m3 47 rfl) rfl
theorem q609 : (Jvm.Cond.selects "SandPiano$Key" ({ cls := "SandPiano$Key", name := "bears", desc := "()I" } : Jvm.MethodName) ({ cls := "SandPiano$Key", name := "bears", desc := "()I" } : Jvm.MethodName)) ∈ lw_all := lw_g (lw_at lw_m3 48 rfl) rfl
theorem q610 : (Jvm.Cond.sameMethod "SandPiano$Key" "SandPiano$Key" "bears" "()I") ∈ lw_all := lw_g (lw_at lw_m3 49 rfl) rfl
theorem q622 : (Jvm.Cond.code ({ cls := "SandPiano$Key", name := "bears", desc := "()I" } : Jvm.MethodName) prog_6_method_4_code (1 : Nat) (Option.some Jvm.ClassFile.FieldType.int)) ∈ lw_all := lw_g (lw_at lw_m3 61 rfl) rfl
theorem q649 : (Jvm.Cond.declares ({ cls := "SandPiano$Key", name := "place", desc := "()I" } : Jvm.MethodName)) ∈ lw_tbl := lw_at lw_m3 88 rfl
theorem q652 : (Jvm.Cond.instanceMethod ({ cls := "SandPiano$Key", name := "place", desc := "()I" } : Jvm.MethodName)) ∈ lw_all := lw_g (lw_at lw_m3 91 rfl) rfl
theorem q653 : (Jvm.Cond.code ({ cls := "SandPiano$Key", name := "place", desc := "()I" } : Jvm.MethodName) prog_6_method_6_code (1 : Nat) (Option.some Jvm.ClassFile.FieldType.int)) ∈ lw_all := lw_g (lw_at lw_m3 92 rfl) rfl
theorem q669 : (Jvm.Cond.declares ({ cls := "SandPiano$Key", name := "strength", desc := "()I" } : Jvm.MethodName)) ∈ lw_tbl := lw_at lw_m3 108 rfl
theorem q681 : (Jvm.Cond.declares ({ cls := "SandPiano$Key", name := "left", desc := "()I" } : Jvm.MethodName)) ∈ lw_tbl := lw_at lw_m3 120 rfl
theorem q683 : (Jvm.Cond.instanceMethod ({ cls := "SandPiano$Key", name := "left", desc := "()I" } : Jvm.MethodName)) ∈ lw_all := lw_g (lw_at lw_m3 122 rfl) rfl
theorem q684 : (Jvm.Cond.code ({ cls := "SandPiano$Key", name := "left", desc := "()I" } : Jvm.MethodName) prog_6_method_9_code (1 : Nat) (Option.some Jvm.ClassFile.FieldType.int)) ∈ lw_all := lw_g (lw_at lw_m3 123 rfl) rfl
theorem q727 : (Jvm.Cond.instanceMethod ({ cls := "SandPiano$Key", name := "throwSand", desc := "(LSandPiano$Sands;I)V" } : Jvm.MethodName)) ∈ lw_all := lw_g (lw_at lw_m3 166 rfl) rfl
theorem q728 : (Jvm.Cond.selects "SandPiano$Key" ({ cls := "SandPiano$Key", name := "throwSand", desc := "(LSandPiano$Sands;I)V" } : Jvm.MethodName) ({ cls := "SandPiano$Key", name := "throwSand", desc := "(LSandPiano$Sands;I)V" } : Jvm.MethodName)) ∈ lw_all := lw_g (lw_at lw_m3 167 rfl) rfl
theorem q729 : (Jvm.Cond.sameMethod "SandPiano$Key" "SandPiano$Key" "throwSand" "(LSandPiano$Sands;I)V") ∈ lw_all := lw_g (lw_at lw_m3 168 rfl) rfl
theorem q758 : (Jvm.Cond.declares ({ cls := "SandPiano$Key", name := "right", desc := "(I)I" } : Jvm.MethodName)) ∈ lw_tbl := lw_at lw_m3 197 rfl
theorem q760 : (Jvm.Cond.instanceMethod ({ cls := "SandPiano$Key", name := "right", desc := "(I)I" } : Jvm.MethodName)) ∈ lw_all := lw_g (lw_at lw_m3 199 rfl) rfl
theorem q761 : (Jvm.Cond.code ({ cls := "SandPiano$Key", name := "right", desc := "(I)I" } : Jvm.MethodName) prog_6_method_10_code (2 : Nat) (Option.some Jvm.ClassFile.FieldType.int)) ∈ lw_all := lw_g (lw_at lw_m3 200 rfl) rfl
theorem q766 : (Jvm.Cond.code ({ cls := "SandPiano$Key", name := "throwSand", desc := "(LSandPiano$Sands;I)V" } : Jvm.MethodName) prog_6_method_11_code (3 : Nat) (Option.none : Option Jvm.ClassFile.FieldType)) ∈ lw_all := lw_g (lw_at lw_m3 205 rfl) rfl
theorem q767 : (Jvm.Cond.methodLink "SandPiano$Key" (31 : Nat) ({ cls := "SandPiano$Key", name := "right", desc := "(I)I" } : Jvm.MethodName)) ∈ lw_all := lw_g (lw_at lw_m3 206 rfl) rfl
theorem q768 : (Jvm.Cond.methodLink "SandPiano$Key" (35 : Nat) ({ cls := "SandPiano$Sands", name := "move", desc := "(III)I" } : Jvm.MethodName)) ∈ lw_all := lw_g (lw_at lw_m3 207 rfl) rfl
theorem q1003 : (Jvm.Cond.instanceMethod ({ cls := "SandPiano$Key", name := "is", desc := "(I)Z" } : Jvm.MethodName)) ∈ lw_all := lw_g (lw_at lw_m4 202 rfl) rfl
theorem q1004 : (Jvm.Cond.selects "SandPiano$Key" ({ cls := "SandPiano$Key", name := "is", desc := "(I)Z" } : Jvm.MethodName) ({ cls := "SandPiano$Key", name := "is", desc := "(I)Z" } : Jvm.MethodName)) ∈ lw_all := lw_g (lw_at lw_m4 203 rfl) rfl
theorem q1005 : (Jvm.Cond.sameMethod "SandPiano$Key" "SandPiano$Key" "is" "(I)Z") ∈ lw_all := lw_g (lw_at lw_m4 204 rfl) rfl
theorem q1026 : (Jvm.Cond.code ({ cls := "SandPiano$Key", name := "is", desc := "(I)Z" } : Jvm.MethodName) prog_6_method_3_code (2 : Nat) (Option.some Jvm.ClassFile.FieldType.boolean)) ∈ lw_all := lw_g (lw_at lw_m4 225 rfl) rfl
theorem q1544 : (Jvm.Cond.sameMethod "SandPiano$Key" "SandPiano$Key" "right" "(I)I") ∈ lw_all := lw_g (lw_at lw_m7 23 rfl) rfl
theorem q1548 : (Jvm.Cond.selects "SandPiano$Key" ({ cls := "SandPiano$Key", name := "right", desc := "(I)I" } : Jvm.MethodName) ({ cls := "SandPiano$Key", name := "right", desc := "(I)I" } : Jvm.MethodName)) ∈ lw_all := lw_g (lw_at lw_m7 27 rfl) rfl
theorem in_X3 : ∀ w ∈ wsX30, w ∈ lw_all := lw_in wsX30 [541, 542, 543] (by decide +kernel) (by decide +kernel)

/-! SandPiano$Bass -/
set_option maxRecDepth 100000
def RX4 : String := "SandPiano$Bass"
def TX4 : u_T := fun k => match k with
  | 0 => ("SandPiano$Key", "place", "I", true)
  | 1 => ("SandPiano$Key", "strength", "I", true)
  | _ => ("SandPiano$Key", "pay", "I", true)
def tyX4 : Nat → FieldType := fun k => match k with
  | 0 => .int
  | 1 => .int
  | _ => .int
abbrev wsX40 : List Cond := u_ws RX4 TX4 3
theorem nmX4 : ∀ a, a < 3 → ∀ b, b < 3 → a ≠ b → (TX4 a).2.1 ≠ (TX4 b).2.1 := by decide +kernel
theorem tyX4_ok : ∀ k, k < 3 → parseFieldDescriptor (TX4 k).2.2.1 = some (tyX4 k) := by decide +kernel
abbrev cX4_init : ByteArray := prog_2_method_1_code
def yX4_init : MethodName := ⟨RX4, "<init>", "(III)V"⟩
def dkwX4_init_0 : List UInt8 := [42, 27, 28, 29, 183, 0, 3, 177]
abbrev dktX4_init_0 : List UInt8 := dkwX4_init_0 ++ []
theorem dksX4_init_0 : cX4_init.data.toList.drop 0 = dktX4_init_0 := by decide +kernel
theorem dX4_init_0 : decode cX4_init 0 = .ok (.aload_n 0, 1) := dk_42 (dk_at dksX4_init_0 0 rfl rfl)
theorem dX4_init_1 : decode cX4_init 1 = .ok (.iload_n 1, 1) := dk_27 (dk_at dksX4_init_0 1 rfl rfl)
theorem dX4_init_2 : decode cX4_init 2 = .ok (.iload_n 2, 1) := dk_28 (dk_at dksX4_init_0 2 rfl rfl)
theorem dX4_init_3 : decode cX4_init 3 = .ok (.iload_n 3, 1) := dk_29 (dk_at dksX4_init_0 3 rfl rfl)
theorem dX4_init_4 : decode cX4_init 4 = .ok (.invokespecial 3, 3) := dk_183 0 3 (dk_at dksX4_init_0 4 rfl rfl)
theorem dX4_init_7 : decode cX4_init 7 = .ok (.return_, 1) := dk_177 (dk_at dksX4_init_0 7 rfl rfl)
abbrev cX4_kind : ByteArray := prog_2_method_2_code
def yX4_kind : MethodName := ⟨RX4, "kind", "()I"⟩
theorem dX4_kind_0 : decode cX4_kind 0 = .ok (.iconst 1, 1) := by decide +kernel
theorem dX4_kind_1 : decode cX4_kind 1 = .ok (.ireturn, 1) := by decide +kernel
abbrev cX4_throwsNow : ByteArray := prog_2_method_5_code
def yX4_throwsNow : MethodName := ⟨RX4, "throwsNow", "(LSandPiano$Sands;)I"⟩
def dkwX4_throwsNow_0 : List UInt8 := [5, 43, 180, 0, 28, 42, 182, 0, 13, 46, 184, 0, 32, 172]
abbrev dktX4_throwsNow_0 : List UInt8 := dkwX4_throwsNow_0 ++ []
theorem dksX4_throwsNow_0 : cX4_throwsNow.data.toList.drop 0 = dktX4_throwsNow_0 := by decide +kernel
theorem dX4_throwsNow_0 : decode cX4_throwsNow 0 = .ok (.iconst 2, 1) := dk_5 (dk_at dksX4_throwsNow_0 0 rfl rfl)
theorem dX4_throwsNow_1 : decode cX4_throwsNow 1 = .ok (.aload_n 1, 1) := dk_43 (dk_at dksX4_throwsNow_0 1 rfl rfl)
theorem dX4_throwsNow_2 : decode cX4_throwsNow 2 = .ok (.getfield 28, 3) := dk_180 0 28 (dk_at dksX4_throwsNow_0 2 rfl rfl)
theorem dX4_throwsNow_5 : decode cX4_throwsNow 5 = .ok (.aload_n 0, 1) := dk_42 (dk_at dksX4_throwsNow_0 5 rfl rfl)
theorem dX4_throwsNow_6 : decode cX4_throwsNow 6 = .ok (.invokevirtual 13, 3) := dk_182 0 13 (dk_at dksX4_throwsNow_0 6 rfl rfl)
theorem dX4_throwsNow_9 : decode cX4_throwsNow 9 = .ok (.iaload, 1) := dk_46 (dk_at dksX4_throwsNow_0 9 rfl rfl)
theorem dX4_throwsNow_10 : decode cX4_throwsNow 10 = .ok (.invokestatic 32, 3) := dk_184 0 32 (dk_at dksX4_throwsNow_0 10 rfl rfl)
theorem dX4_throwsNow_13 : decode cX4_throwsNow 13 = .ok (.ireturn, 1) := dk_172 (dk_at dksX4_throwsNow_0 13 rfl rfl)
abbrev cX4_throwSand : ByteArray := prog_2_method_4_code
def yX4_throwSand : MethodName := ⟨RX4, "throwSand", "(LSandPiano$Sands;I)V"⟩
def dkwX4_throwSand_0 : List UInt8 := [43, 42, 182, 0, 13, 42, 182, 0, 19, 5, 182, 0, 22, 87, 177]
abbrev dktX4_throwSand_0 : List UInt8 := dkwX4_throwSand_0 ++ []
theorem dksX4_throwSand_0 : cX4_throwSand.data.toList.drop 0 = dktX4_throwSand_0 := by decide +kernel
theorem dX4_throwSand_0 : decode cX4_throwSand 0 = .ok (.aload_n 1, 1) := dk_43 (dk_at dksX4_throwSand_0 0 rfl rfl)
theorem dX4_throwSand_1 : decode cX4_throwSand 1 = .ok (.aload_n 0, 1) := dk_42 (dk_at dksX4_throwSand_0 1 rfl rfl)
theorem dX4_throwSand_2 : decode cX4_throwSand 2 = .ok (.invokevirtual 13, 3) := dk_182 0 13 (dk_at dksX4_throwSand_0 2 rfl rfl)
theorem dX4_throwSand_5 : decode cX4_throwSand 5 = .ok (.aload_n 0, 1) := dk_42 (dk_at dksX4_throwSand_0 5 rfl rfl)
theorem dX4_throwSand_6 : decode cX4_throwSand 6 = .ok (.invokevirtual 19, 3) := dk_182 0 19 (dk_at dksX4_throwSand_0 6 rfl rfl)
theorem dX4_throwSand_9 : decode cX4_throwSand 9 = .ok (.iconst 2, 1) := dk_5 (dk_at dksX4_throwSand_0 9 rfl rfl)
theorem dX4_throwSand_10 : decode cX4_throwSand 10 = .ok (.invokevirtual 22, 3) := dk_182 0 22 (dk_at dksX4_throwSand_0 10 rfl rfl)
theorem dX4_throwSand_13 : decode cX4_throwSand 13 = .ok (.pop, 1) := dk_87 (dk_at dksX4_throwSand_0 13 rfl rfl)
theorem dX4_throwSand_14 : decode cX4_throwSand 14 = .ok (.return_, 1) := dk_177 (dk_at dksX4_throwSand_0 14 rfl rfl)
abbrev cX4_is : ByteArray := prog_2_method_3_code
def yX4_is : MethodName := ⟨RX4, "is", "(I)Z"⟩
def dkwX4_is_0 : List UInt8 := [27, 4, 159, 0, 11, 42, 27, 183, 0, 9, 153, 0, 7, 4, 167, 0, 4, 3, 172]
abbrev dktX4_is_0 : List UInt8 := dkwX4_is_0 ++ []
theorem dksX4_is_0 : cX4_is.data.toList.drop 0 = dktX4_is_0 := by decide +kernel
theorem dX4_is_0 : decode cX4_is 0 = .ok (.iload_n 1, 1) := dk_27 (dk_at dksX4_is_0 0 rfl rfl)
theorem dX4_is_1 : decode cX4_is 1 = .ok (.iconst 1, 1) := dk_4 (dk_at dksX4_is_0 1 rfl rfl)
theorem dX4_is_2 : decode cX4_is 2 = .ok (.if_icmp .eq 11, 3) := dk_159 0 11 (dk_at dksX4_is_0 2 rfl rfl)
theorem dX4_is_5 : decode cX4_is 5 = .ok (.aload_n 0, 1) := dk_42 (dk_at dksX4_is_0 5 rfl rfl)
theorem dX4_is_6 : decode cX4_is 6 = .ok (.iload_n 1, 1) := dk_27 (dk_at dksX4_is_0 6 rfl rfl)
theorem dX4_is_7 : decode cX4_is 7 = .ok (.invokespecial 9, 3) := dk_183 0 9 (dk_at dksX4_is_0 7 rfl rfl)
theorem dX4_is_10 : decode cX4_is 10 = .ok (.ifCond .eq 7, 3) := dk_153 0 7 (dk_at dksX4_is_0 10 rfl rfl)
theorem dX4_is_13 : decode cX4_is 13 = .ok (.iconst 1, 1) := dk_4 (dk_at dksX4_is_0 13 rfl rfl)
theorem dX4_is_14 : decode cX4_is 14 = .ok (.goto 4, 3) := dk_167 0 4 (dk_at dksX4_is_0 14 rfl rfl)
theorem dX4_is_17 : decode cX4_is 17 = .ok (.iconst 0, 1) := dk_3 (dk_at dksX4_is_0 17 rfl rfl)
theorem dX4_is_18 : decode cX4_is 18 = .ok (.ireturn, 1) := dk_172 (dk_at dksX4_is_0 18 rfl rfl)
theorem q96 : (Jvm.Cond.initialized "SandPiano$Bass") ∈ lw_all := lw_g (lw_at lw_m1 15 rfl) rfl
theorem q128 : (Jvm.Cond.fieldLinkNest "SandPiano$Bass" (28 : Nat) "SandPiano$Sands" "at" "[I" "SandPiano") ∈ lw_tbl := lw_at lw_m1 47 rfl
theorem q481 : (Jvm.Cond.instantiable "SandPiano$Bass" (3 : Nat)) ∈ lw_all := lw_g (lw_at lw_m2 160 rfl) rfl
theorem q483 : (Jvm.Cond.instanceMethod ({ cls := "SandPiano$Bass", name := "<init>", desc := "(III)V" } : Jvm.MethodName)) ∈ lw_all := lw_g (lw_at lw_m2 162 rfl) rfl
theorem q484 : (Jvm.Cond.code ({ cls := "SandPiano$Bass", name := "<init>", desc := "(III)V" } : Jvm.MethodName) prog_2_method_1_code (4 : Nat) (Option.none : Option Jvm.ClassFile.FieldType)) ∈ lw_all := lw_g (lw_at lw_m2 163 rfl) rfl
theorem q485 : (Jvm.Cond.methodLink "SandPiano$Bass" (3 : Nat) ({ cls := "SandPiano$Key", name := "<init>", desc := "(III)V" } : Jvm.MethodName)) ∈ lw_all := lw_g (lw_at lw_m2 164 rfl) rfl
theorem q492 : (Jvm.Cond.laysFinal "SandPiano$Bass" "SandPiano$Key" "place" "I") ∈ lw_all := lw_g (lw_at lw_m2 171 rfl) rfl
theorem q494 : (Jvm.Cond.laysFinal "SandPiano$Bass" "SandPiano$Key" "strength" "I") ∈ lw_all := lw_g (lw_at lw_m2 173 rfl) rfl
theorem q496 : (Jvm.Cond.laysFinal "SandPiano$Bass" "SandPiano$Key" "pay" "I") ∈ lw_all := lw_g (lw_at lw_m2 175 rfl) rfl
theorem q498 : (Jvm.Cond.superclass "SandPiano$Bass" "SandPiano$Key") ∈ lw_all := lw_g (lw_at lw_m2 177 rfl) rfl
theorem q561 : (Jvm.Cond.selects "SandPiano$Bass" ({ cls := "SandPiano$Key", name := "kind", desc := "()I" } : Jvm.MethodName) ({ cls := "SandPiano$Bass", name := "kind", desc := "()I" } : Jvm.MethodName)) ∈ lw_all := lw_g (lw_at lw_m3 0 rfl) rfl
theorem q562 : (Jvm.Cond.instanceMethod ({ cls := "SandPiano$Bass", name := "kind", desc := "()I" } : Jvm.MethodName)) ∈ lw_all := lw_g (lw_at lw_m3 1 rfl) rfl
theorem q563 : (Jvm.Cond.code ({ cls := "SandPiano$Bass", name := "kind", desc := "()I" } : Jvm.MethodName) prog_2_method_2_code (1 : Nat) (Option.some Jvm.ClassFile.FieldType.int)) ∈ lw_all := lw_g (lw_at lw_m3 2 rfl) rfl
theorem q581 : (Jvm.Cond.selects "SandPiano$Bass" ({ cls := "SandPiano$Key", name := "strength", desc := "()I" } : Jvm.MethodName) ({ cls := "SandPiano$Key", name := "strength", desc := "()I" } : Jvm.MethodName)) ∈ lw_all := lw_g (lw_at lw_m3 20 rfl) rfl
theorem q591 : (Jvm.Cond.selects "SandPiano$Bass" ({ cls := "SandPiano$Key", name := "pay", desc := "()I" } : Jvm.MethodName) ({ cls := "SandPiano$Key", name := "pay", desc := "()I" } : Jvm.MethodName)) ∈ lw_all := lw_g (lw_at lw_m3 30 rfl) rfl
theorem q601 : (Jvm.Cond.selects "SandPiano$Bass" ({ cls := "SandPiano$Key", name := "plays", desc := "(LSandPiano$Sands;)Z" } : Jvm.MethodName) ({ cls := "SandPiano$Key", name := "plays", desc := "(LSandPiano$Sands;)Z" } : Jvm.MethodName)) ∈ lw_all := lw_g (lw_at lw_m3 40 rfl) rfl
theorem q611 : (Jvm.Cond.selects "SandPiano$Bass" ({ cls := "SandPiano$Key", name := "bears", desc := "()I" } : Jvm.MethodName) ({ cls := "SandPiano$Key", name := "bears", desc := "()I" } : Jvm.MethodName)) ∈ lw_all := lw_g (lw_at lw_m3 50 rfl) rfl
theorem q642 : (Jvm.Cond.instanceMethod ({ cls := "SandPiano$Bass", name := "throwsNow", desc := "(LSandPiano$Sands;)I" } : Jvm.MethodName)) ∈ lw_all := lw_g (lw_at lw_m3 81 rfl) rfl
theorem q643 : (Jvm.Cond.selects "SandPiano$Bass" ({ cls := "SandPiano$Bass", name := "throwsNow", desc := "(LSandPiano$Sands;)I" } : Jvm.MethodName) ({ cls := "SandPiano$Bass", name := "throwsNow", desc := "(LSandPiano$Sands;)I" } : Jvm.MethodName)) ∈ lw_all := lw_g (lw_at lw_m3 82 rfl) rfl
theorem q644 : (Jvm.Cond.sameMethod "SandPiano$Bass" "SandPiano$Bass" "throwsNow" "(LSandPiano$Sands;)I") ∈ lw_all := lw_g (lw_at lw_m3 83 rfl) rfl
theorem q646 : (Jvm.Cond.code ({ cls := "SandPiano$Bass", name := "throwsNow", desc := "(LSandPiano$Sands;)I" } : Jvm.MethodName) prog_2_method_5_code (2 : Nat) (Option.some Jvm.ClassFile.FieldType.int)) ∈ lw_all := lw_g (lw_at lw_m3 85 rfl) rfl
theorem q647 : (Jvm.Cond.methodLink "SandPiano$Bass" (13 : Nat) ({ cls := "SandPiano$Bass", name := "place", desc := "()I" } : Jvm.MethodName)) ∈ lw_all := lw_g (lw_at lw_m3 86 rfl) rfl
theorem q648 : (Jvm.Cond.sameMethod "SandPiano$Bass" "SandPiano$Key" "place" "()I") ∈ lw_all := lw_g (lw_at lw_m3 87 rfl) rfl
theorem q650 : (Jvm.Cond.selects "SandPiano$Bass" ({ cls := "SandPiano$Bass", name := "place", desc := "()I" } : Jvm.MethodName) ({ cls := "SandPiano$Key", name := "place", desc := "()I" } : Jvm.MethodName)) ∈ lw_all := lw_g (lw_at lw_m3 89 rfl) rfl
theorem q654 : (Jvm.Cond.methodLink "SandPiano$Bass" (32 : Nat) ({ cls := "java/lang/Math", name := "min", desc := "(II)I" } : Jvm.MethodName)) ∈ lw_all := lw_g (lw_at lw_m3 93 rfl) rfl
theorem q730 : (Jvm.Cond.selects "SandPiano$Bass" ({ cls := "SandPiano$Key", name := "throwSand", desc := "(LSandPiano$Sands;I)V" } : Jvm.MethodName) ({ cls := "SandPiano$Bass", name := "throwSand", desc := "(LSandPiano$Sands;I)V" } : Jvm.MethodName)) ∈ lw_all := lw_g (lw_at lw_m3 169 rfl) rfl
theorem q731 : (Jvm.Cond.instanceMethod ({ cls := "SandPiano$Bass", name := "throwSand", desc := "(LSandPiano$Sands;I)V" } : Jvm.MethodName)) ∈ lw_all := lw_g (lw_at lw_m3 170 rfl) rfl
theorem q732 : (Jvm.Cond.code ({ cls := "SandPiano$Bass", name := "throwSand", desc := "(LSandPiano$Sands;I)V" } : Jvm.MethodName) prog_2_method_4_code (3 : Nat) (Option.none : Option Jvm.ClassFile.FieldType)) ∈ lw_all := lw_g (lw_at lw_m3 171 rfl) rfl
theorem q733 : (Jvm.Cond.methodLink "SandPiano$Bass" (19 : Nat) ({ cls := "SandPiano$Bass", name := "left", desc := "()I" } : Jvm.MethodName)) ∈ lw_all := lw_g (lw_at lw_m3 172 rfl) rfl
theorem q734 : (Jvm.Cond.sameMethod "SandPiano$Bass" "SandPiano$Key" "left" "()I") ∈ lw_all := lw_g (lw_at lw_m3 173 rfl) rfl
theorem q735 : (Jvm.Cond.selects "SandPiano$Bass" ({ cls := "SandPiano$Bass", name := "left", desc := "()I" } : Jvm.MethodName) ({ cls := "SandPiano$Key", name := "left", desc := "()I" } : Jvm.MethodName)) ∈ lw_all := lw_g (lw_at lw_m3 174 rfl) rfl
theorem q737 : (Jvm.Cond.methodLink "SandPiano$Bass" (22 : Nat) ({ cls := "SandPiano$Sands", name := "move", desc := "(III)I" } : Jvm.MethodName)) ∈ lw_all := lw_g (lw_at lw_m3 176 rfl) rfl
theorem q1006 : (Jvm.Cond.selects "SandPiano$Bass" ({ cls := "SandPiano$Key", name := "is", desc := "(I)Z" } : Jvm.MethodName) ({ cls := "SandPiano$Bass", name := "is", desc := "(I)Z" } : Jvm.MethodName)) ∈ lw_all := lw_g (lw_at lw_m4 205 rfl) rfl
theorem q1007 : (Jvm.Cond.instanceMethod ({ cls := "SandPiano$Bass", name := "is", desc := "(I)Z" } : Jvm.MethodName)) ∈ lw_all := lw_g (lw_at lw_m4 206 rfl) rfl
theorem q1008 : (Jvm.Cond.code ({ cls := "SandPiano$Bass", name := "is", desc := "(I)Z" } : Jvm.MethodName) prog_2_method_3_code (2 : Nat) (Option.some Jvm.ClassFile.FieldType.boolean)) ∈ lw_all := lw_g (lw_at lw_m4 207 rfl) rfl
theorem q1009 : (Jvm.Cond.methodLink "SandPiano$Bass" (9 : Nat) ({ cls := "SandPiano$Key", name := "is", desc := "(I)Z" } : Jvm.MethodName)) ∈ lw_all := lw_g (lw_at lw_m4 208 rfl) rfl
theorem q1545 : (Jvm.Cond.selects "SandPiano$Bass" ({ cls := "SandPiano$Key", name := "right", desc := "(I)I" } : Jvm.MethodName) ({ cls := "SandPiano$Key", name := "right", desc := "(I)I" } : Jvm.MethodName)) ∈ lw_all := lw_g (lw_at lw_m7 24 rfl) rfl
theorem q1551 : (Jvm.Cond.sameMethod "SandPiano$Bass" "SandPiano$Bass" "is" "(I)Z") ∈ lw_all := lw_g (lw_at lw_m7 30 rfl) rfl
theorem q1556 : (Jvm.Cond.castable "SandPiano$Bass" "SandPiano$Key") ∈ lw_tbl := lw_at lw_m7 35 rfl
theorem in_X4 : ∀ w ∈ wsX40, w ∈ lw_all := lw_in wsX40 [492, 494, 496] (by decide +kernel) (by decide +kernel)

/-! SandPiano$Shell -/
set_option maxRecDepth 100000
def RX5 : String := "SandPiano$Shell"
def TX5 : u_T := fun k => match k with
  | 0 => ("SandPiano$Key", "place", "I", true)
  | 1 => ("SandPiano$Key", "strength", "I", true)
  | _ => ("SandPiano$Key", "pay", "I", true)
def tyX5 : Nat → FieldType := fun k => match k with
  | 0 => .int
  | 1 => .int
  | _ => .int
abbrev wsX50 : List Cond := u_ws RX5 TX5 3
theorem nmX5 : ∀ a, a < 3 → ∀ b, b < 3 → a ≠ b → (TX5 a).2.1 ≠ (TX5 b).2.1 := by decide +kernel
theorem tyX5_ok : ∀ k, k < 3 → parseFieldDescriptor (TX5 k).2.2.1 = some (tyX5 k) := by decide +kernel
abbrev cX5_init : ByteArray := prog_9_method_1_code
def yX5_init : MethodName := ⟨RX5, "<init>", "(III)V"⟩
def dkwX5_init_0 : List UInt8 := [42, 27, 28, 29, 183, 0, 3, 177]
abbrev dktX5_init_0 : List UInt8 := dkwX5_init_0 ++ []
theorem dksX5_init_0 : cX5_init.data.toList.drop 0 = dktX5_init_0 := by decide +kernel
theorem dX5_init_0 : decode cX5_init 0 = .ok (.aload_n 0, 1) := dk_42 (dk_at dksX5_init_0 0 rfl rfl)
theorem dX5_init_1 : decode cX5_init 1 = .ok (.iload_n 1, 1) := dk_27 (dk_at dksX5_init_0 1 rfl rfl)
theorem dX5_init_2 : decode cX5_init 2 = .ok (.iload_n 2, 1) := dk_28 (dk_at dksX5_init_0 2 rfl rfl)
theorem dX5_init_3 : decode cX5_init 3 = .ok (.iload_n 3, 1) := dk_29 (dk_at dksX5_init_0 3 rfl rfl)
theorem dX5_init_4 : decode cX5_init 4 = .ok (.invokespecial 3, 3) := dk_183 0 3 (dk_at dksX5_init_0 4 rfl rfl)
theorem dX5_init_7 : decode cX5_init 7 = .ok (.return_, 1) := dk_177 (dk_at dksX5_init_0 7 rfl rfl)
abbrev cX5_kind : ByteArray := prog_9_method_2_code
def yX5_kind : MethodName := ⟨RX5, "kind", "()I"⟩
theorem dX5_kind_0 : decode cX5_kind 0 = .ok (.iconst 2, 1) := by decide +kernel
theorem dX5_kind_1 : decode cX5_kind 1 = .ok (.ireturn, 1) := by decide +kernel
abbrev cX5_bears : ByteArray := prog_9_method_4_code
def yX5_bears : MethodName := ⟨RX5, "bears", "()I"⟩
def dkwX5_bears_0 : List UInt8 := [42, 183, 0, 13, 5, 96, 172]
abbrev dktX5_bears_0 : List UInt8 := dkwX5_bears_0 ++ []
theorem dksX5_bears_0 : cX5_bears.data.toList.drop 0 = dktX5_bears_0 := by decide +kernel
theorem dX5_bears_0 : decode cX5_bears 0 = .ok (.aload_n 0, 1) := dk_42 (dk_at dksX5_bears_0 0 rfl rfl)
theorem dX5_bears_1 : decode cX5_bears 1 = .ok (.invokespecial 13, 3) := dk_183 0 13 (dk_at dksX5_bears_0 1 rfl rfl)
theorem dX5_bears_4 : decode cX5_bears 4 = .ok (.iconst 2, 1) := dk_5 (dk_at dksX5_bears_0 4 rfl rfl)
theorem dX5_bears_5 : decode cX5_bears 5 = .ok (.iadd, 1) := dk_96 (dk_at dksX5_bears_0 5 rfl rfl)
theorem dX5_bears_6 : decode cX5_bears 6 = .ok (.ireturn, 1) := dk_172 (dk_at dksX5_bears_0 6 rfl rfl)
abbrev cX5_above : ByteArray := prog_9_method_6_code
def yX5_above : MethodName := ⟨RX5, "above", "(LSandPiano$Sands;)I"⟩
def dkwX5_above_0 : List UInt8 := [3, 43, 180, 0, 17, 42, 182, 0, 23, 46, 42, 182, 0, 28, 100, 184, 0, 31, 172]
abbrev dktX5_above_0 : List UInt8 := dkwX5_above_0 ++ []
theorem dksX5_above_0 : cX5_above.data.toList.drop 0 = dktX5_above_0 := by decide +kernel
theorem dX5_above_0 : decode cX5_above 0 = .ok (.iconst 0, 1) := dk_3 (dk_at dksX5_above_0 0 rfl rfl)
theorem dX5_above_1 : decode cX5_above 1 = .ok (.aload_n 1, 1) := dk_43 (dk_at dksX5_above_0 1 rfl rfl)
theorem dX5_above_2 : decode cX5_above 2 = .ok (.getfield 17, 3) := dk_180 0 17 (dk_at dksX5_above_0 2 rfl rfl)
theorem dX5_above_5 : decode cX5_above 5 = .ok (.aload_n 0, 1) := dk_42 (dk_at dksX5_above_0 5 rfl rfl)
theorem dX5_above_6 : decode cX5_above 6 = .ok (.invokevirtual 23, 3) := dk_182 0 23 (dk_at dksX5_above_0 6 rfl rfl)
theorem dX5_above_9 : decode cX5_above 9 = .ok (.iaload, 1) := dk_46 (dk_at dksX5_above_0 9 rfl rfl)
theorem dX5_above_10 : decode cX5_above 10 = .ok (.aload_n 0, 1) := dk_42 (dk_at dksX5_above_0 10 rfl rfl)
theorem dX5_above_11 : decode cX5_above 11 = .ok (.invokevirtual 28, 3) := dk_182 0 28 (dk_at dksX5_above_0 11 rfl rfl)
theorem dX5_above_14 : decode cX5_above 14 = .ok (.isub, 1) := dk_100 (dk_at dksX5_above_0 14 rfl rfl)
theorem dX5_above_15 : decode cX5_above 15 = .ok (.invokestatic 31, 3) := dk_184 0 31 (dk_at dksX5_above_0 15 rfl rfl)
theorem dX5_above_18 : decode cX5_above 18 = .ok (.ireturn, 1) := dk_172 (dk_at dksX5_above_0 18 rfl rfl)
abbrev cX5_throwSand : ByteArray := prog_9_method_5_code
def yX5_throwSand : MethodName := ⟨RX5, "throwSand", "(LSandPiano$Sands;I)V"⟩
theorem dX5_throwSand_0 : decode cX5_throwSand 0 = .ok (.return_, 1) := by decide +kernel
abbrev cX5_is : ByteArray := prog_9_method_3_code
def yX5_is : MethodName := ⟨RX5, "is", "(I)Z"⟩
def dkwX5_is_0 : List UInt8 := [27, 5, 159, 0, 11, 42, 27, 183, 0, 9, 153, 0, 7, 4, 167, 0, 4, 3, 172]
abbrev dktX5_is_0 : List UInt8 := dkwX5_is_0 ++ []
theorem dksX5_is_0 : cX5_is.data.toList.drop 0 = dktX5_is_0 := by decide +kernel
theorem dX5_is_0 : decode cX5_is 0 = .ok (.iload_n 1, 1) := dk_27 (dk_at dksX5_is_0 0 rfl rfl)
theorem dX5_is_1 : decode cX5_is 1 = .ok (.iconst 2, 1) := dk_5 (dk_at dksX5_is_0 1 rfl rfl)
theorem dX5_is_2 : decode cX5_is 2 = .ok (.if_icmp .eq 11, 3) := dk_159 0 11 (dk_at dksX5_is_0 2 rfl rfl)
theorem dX5_is_5 : decode cX5_is 5 = .ok (.aload_n 0, 1) := dk_42 (dk_at dksX5_is_0 5 rfl rfl)
theorem dX5_is_6 : decode cX5_is 6 = .ok (.iload_n 1, 1) := dk_27 (dk_at dksX5_is_0 6 rfl rfl)
theorem dX5_is_7 : decode cX5_is 7 = .ok (.invokespecial 9, 3) := dk_183 0 9 (dk_at dksX5_is_0 7 rfl rfl)
theorem dX5_is_10 : decode cX5_is 10 = .ok (.ifCond .eq 7, 3) := dk_153 0 7 (dk_at dksX5_is_0 10 rfl rfl)
theorem dX5_is_13 : decode cX5_is 13 = .ok (.iconst 1, 1) := dk_4 (dk_at dksX5_is_0 13 rfl rfl)
theorem dX5_is_14 : decode cX5_is 14 = .ok (.goto 4, 3) := dk_167 0 4 (dk_at dksX5_is_0 14 rfl rfl)
theorem dX5_is_17 : decode cX5_is 17 = .ok (.iconst 0, 1) := dk_3 (dk_at dksX5_is_0 17 rfl rfl)
theorem dX5_is_18 : decode cX5_is 18 = .ok (.ireturn, 1) := dk_172 (dk_at dksX5_is_0 18 rfl rfl)
theorem q97 : (Jvm.Cond.initialized "SandPiano$Shell") ∈ lw_all := lw_g (lw_at lw_m1 16 rfl) rfl
theorem q129 : (Jvm.Cond.fieldLinkNest "SandPiano$Shell" (17 : Nat) "SandPiano$Sands" "at" "[I" "SandPiano") ∈ lw_tbl := lw_at lw_m1 48 rfl
theorem q500 : (Jvm.Cond.instantiable "SandPiano$Shell" (3 : Nat)) ∈ lw_all := lw_g (lw_at lw_m2 179 rfl) rfl
theorem q502 : (Jvm.Cond.instanceMethod ({ cls := "SandPiano$Shell", name := "<init>", desc := "(III)V" } : Jvm.MethodName)) ∈ lw_all := lw_g (lw_at lw_m2 181 rfl) rfl
theorem q503 : (Jvm.Cond.code ({ cls := "SandPiano$Shell", name := "<init>", desc := "(III)V" } : Jvm.MethodName) prog_9_method_1_code (4 : Nat) (Option.none : Option Jvm.ClassFile.FieldType)) ∈ lw_all := lw_g (lw_at lw_m2 182 rfl) rfl
theorem q504 : (Jvm.Cond.methodLink "SandPiano$Shell" (3 : Nat) ({ cls := "SandPiano$Key", name := "<init>", desc := "(III)V" } : Jvm.MethodName)) ∈ lw_all := lw_g (lw_at lw_m2 183 rfl) rfl
theorem q505 : (Jvm.Cond.laysFinal "SandPiano$Shell" "SandPiano$Key" "place" "I") ∈ lw_all := lw_g (lw_at lw_m2 184 rfl) rfl
theorem q506 : (Jvm.Cond.laysFinal "SandPiano$Shell" "SandPiano$Key" "strength" "I") ∈ lw_all := lw_g (lw_at lw_m2 185 rfl) rfl
theorem q507 : (Jvm.Cond.laysFinal "SandPiano$Shell" "SandPiano$Key" "pay" "I") ∈ lw_all := lw_g (lw_at lw_m2 186 rfl) rfl
theorem q508 : (Jvm.Cond.superclass "SandPiano$Shell" "SandPiano$Key") ∈ lw_all := lw_g (lw_at lw_m2 187 rfl) rfl
theorem q573 : (Jvm.Cond.selects "SandPiano$Shell" ({ cls := "SandPiano$Key", name := "kind", desc := "()I" } : Jvm.MethodName) ({ cls := "SandPiano$Shell", name := "kind", desc := "()I" } : Jvm.MethodName)) ∈ lw_all := lw_g (lw_at lw_m3 12 rfl) rfl
theorem q574 : (Jvm.Cond.instanceMethod ({ cls := "SandPiano$Shell", name := "kind", desc := "()I" } : Jvm.MethodName)) ∈ lw_all := lw_g (lw_at lw_m3 13 rfl) rfl
theorem q575 : (Jvm.Cond.code ({ cls := "SandPiano$Shell", name := "kind", desc := "()I" } : Jvm.MethodName) prog_9_method_2_code (1 : Nat) (Option.some Jvm.ClassFile.FieldType.int)) ∈ lw_all := lw_g (lw_at lw_m3 14 rfl) rfl
theorem q585 : (Jvm.Cond.selects "SandPiano$Shell" ({ cls := "SandPiano$Key", name := "strength", desc := "()I" } : Jvm.MethodName) ({ cls := "SandPiano$Key", name := "strength", desc := "()I" } : Jvm.MethodName)) ∈ lw_all := lw_g (lw_at lw_m3 24 rfl) rfl
theorem q595 : (Jvm.Cond.selects "SandPiano$Shell" ({ cls := "SandPiano$Key", name := "pay", desc := "()I" } : Jvm.MethodName) ({ cls := "SandPiano$Key", name := "pay", desc := "()I" } : Jvm.MethodName)) ∈ lw_all := lw_g (lw_at lw_m3 34 rfl) rfl
theorem q605 : (Jvm.Cond.selects "SandPiano$Shell" ({ cls := "SandPiano$Key", name := "plays", desc := "(LSandPiano$Sands;)Z" } : Jvm.MethodName) ({ cls := "SandPiano$Key", name := "plays", desc := "(LSandPiano$Sands;)Z" } : Jvm.MethodName)) ∈ lw_all := lw_g (lw_at lw_m3 44 rfl) rfl
theorem q618 : (Jvm.Cond.selects "SandPiano$Shell" ({ cls := "SandPiano$Key", name := "bears", desc := "()I" } : Jvm.MethodName) ({ cls := "SandPiano$Shell", name := "bears", desc := "()I" } : Jvm.MethodName)) ∈ lw_all := lw_g (lw_at lw_m3 57 rfl) rfl
theorem q619 : (Jvm.Cond.instanceMethod ({ cls := "SandPiano$Shell", name := "bears", desc := "()I" } : Jvm.MethodName)) ∈ lw_all := lw_g (lw_at lw_m3 58 rfl) rfl
theorem q620 : (Jvm.Cond.code ({ cls := "SandPiano$Shell", name := "bears", desc := "()I" } : Jvm.MethodName) prog_9_method_4_code (1 : Nat) (Option.some Jvm.ClassFile.FieldType.int)) ∈ lw_all := lw_g (lw_at lw_m3 59 rfl) rfl
theorem q621 : (Jvm.Cond.methodLink "SandPiano$Shell" (13 : Nat) ({ cls := "SandPiano$Key", name := "bears", desc := "()I" } : Jvm.MethodName)) ∈ lw_all := lw_g (lw_at lw_m3 60 rfl) rfl
theorem q658 : (Jvm.Cond.instanceMethod ({ cls := "SandPiano$Shell", name := "above", desc := "(LSandPiano$Sands;)I" } : Jvm.MethodName)) ∈ lw_all := lw_g (lw_at lw_m3 97 rfl) rfl
theorem q659 : (Jvm.Cond.selects "SandPiano$Shell" ({ cls := "SandPiano$Shell", name := "above", desc := "(LSandPiano$Sands;)I" } : Jvm.MethodName) ({ cls := "SandPiano$Shell", name := "above", desc := "(LSandPiano$Sands;)I" } : Jvm.MethodName)) ∈ lw_all := lw_g (lw_at lw_m3 98 rfl) rfl
theorem q660 : (Jvm.Cond.sameMethod "SandPiano$Shell" "SandPiano$Shell" "above" "(LSandPiano$Sands;)I") ∈ lw_all := lw_g (lw_at lw_m3 99 rfl) rfl
theorem q662 : (Jvm.Cond.code ({ cls := "SandPiano$Shell", name := "above", desc := "(LSandPiano$Sands;)I" } : Jvm.MethodName) prog_9_method_6_code (2 : Nat) (Option.some Jvm.ClassFile.FieldType.int)) ∈ lw_all := lw_g (lw_at lw_m3 101 rfl) rfl
theorem q663 : (Jvm.Cond.methodLink "SandPiano$Shell" (23 : Nat) ({ cls := "SandPiano$Shell", name := "place", desc := "()I" } : Jvm.MethodName)) ∈ lw_all := lw_g (lw_at lw_m3 102 rfl) rfl
theorem q664 : (Jvm.Cond.sameMethod "SandPiano$Shell" "SandPiano$Key" "place" "()I") ∈ lw_all := lw_g (lw_at lw_m3 103 rfl) rfl
theorem q666 : (Jvm.Cond.selects "SandPiano$Shell" ({ cls := "SandPiano$Shell", name := "place", desc := "()I" } : Jvm.MethodName) ({ cls := "SandPiano$Key", name := "place", desc := "()I" } : Jvm.MethodName)) ∈ lw_all := lw_g (lw_at lw_m3 105 rfl) rfl
theorem q667 : (Jvm.Cond.methodLink "SandPiano$Shell" (28 : Nat) ({ cls := "SandPiano$Shell", name := "strength", desc := "()I" } : Jvm.MethodName)) ∈ lw_all := lw_g (lw_at lw_m3 106 rfl) rfl
theorem q668 : (Jvm.Cond.sameMethod "SandPiano$Shell" "SandPiano$Key" "strength" "()I") ∈ lw_all := lw_g (lw_at lw_m3 107 rfl) rfl
theorem q671 : (Jvm.Cond.selects "SandPiano$Shell" ({ cls := "SandPiano$Shell", name := "strength", desc := "()I" } : Jvm.MethodName) ({ cls := "SandPiano$Key", name := "strength", desc := "()I" } : Jvm.MethodName)) ∈ lw_all := lw_g (lw_at lw_m3 110 rfl) rfl
theorem q672 : (Jvm.Cond.methodLink "SandPiano$Shell" (31 : Nat) ({ cls := "java/lang/Math", name := "max", desc := "(II)I" } : Jvm.MethodName)) ∈ lw_all := lw_g (lw_at lw_m3 111 rfl) rfl
theorem q763 : (Jvm.Cond.instanceMethod ({ cls := "SandPiano$Shell", name := "throwSand", desc := "(LSandPiano$Sands;I)V" } : Jvm.MethodName)) ∈ lw_all := lw_g (lw_at lw_m3 202 rfl) rfl
theorem q764 : (Jvm.Cond.code ({ cls := "SandPiano$Shell", name := "throwSand", desc := "(LSandPiano$Sands;I)V" } : Jvm.MethodName) prog_9_method_5_code (3 : Nat) (Option.none : Option Jvm.ClassFile.FieldType)) ∈ lw_all := lw_g (lw_at lw_m3 203 rfl) rfl
theorem q765 : (Jvm.Cond.selects "SandPiano$Shell" ({ cls := "SandPiano$Key", name := "throwSand", desc := "(LSandPiano$Sands;I)V" } : Jvm.MethodName) ({ cls := "SandPiano$Shell", name := "throwSand", desc := "(LSandPiano$Sands;I)V" } : Jvm.MethodName)) ∈ lw_all := lw_g (lw_at lw_m3 204 rfl) rfl
theorem q1022 : (Jvm.Cond.instanceMethod ({ cls := "SandPiano$Shell", name := "is", desc := "(I)Z" } : Jvm.MethodName)) ∈ lw_all := lw_g (lw_at lw_m4 221 rfl) rfl
theorem q1023 : (Jvm.Cond.code ({ cls := "SandPiano$Shell", name := "is", desc := "(I)Z" } : Jvm.MethodName) prog_9_method_3_code (2 : Nat) (Option.some Jvm.ClassFile.FieldType.boolean)) ∈ lw_all := lw_g (lw_at lw_m4 222 rfl) rfl
theorem q1024 : (Jvm.Cond.methodLink "SandPiano$Shell" (9 : Nat) ({ cls := "SandPiano$Key", name := "is", desc := "(I)Z" } : Jvm.MethodName)) ∈ lw_all := lw_g (lw_at lw_m4 223 rfl) rfl
theorem q1025 : (Jvm.Cond.selects "SandPiano$Shell" ({ cls := "SandPiano$Key", name := "is", desc := "(I)Z" } : Jvm.MethodName) ({ cls := "SandPiano$Shell", name := "is", desc := "(I)Z" } : Jvm.MethodName)) ∈ lw_all := lw_g (lw_at lw_m4 224 rfl) rfl
theorem q1550 : (Jvm.Cond.selects "SandPiano$Shell" ({ cls := "SandPiano$Key", name := "right", desc := "(I)I" } : Jvm.MethodName) ({ cls := "SandPiano$Key", name := "right", desc := "(I)I" } : Jvm.MethodName)) ∈ lw_all := lw_g (lw_at lw_m7 29 rfl) rfl
theorem q1552 : (Jvm.Cond.sameMethod "SandPiano$Shell" "SandPiano$Shell" "is" "(I)Z") ∈ lw_all := lw_g (lw_at lw_m7 31 rfl) rfl
theorem q1557 : (Jvm.Cond.castable "SandPiano$Shell" "SandPiano$Key") ∈ lw_tbl := lw_at lw_m7 36 rfl
theorem in_X5 : ∀ w ∈ wsX50, w ∈ lw_all := lw_in wsX50 [505, 506, 507] (by decide +kernel) (by decide +kernel)

/-! SandPiano$Crab -/
set_option maxRecDepth 100000
def RX6 : String := "SandPiano$Crab"
def TX6 : u_T := fun k => match k with
  | 0 => ("SandPiano$Key", "place", "I", true)
  | 1 => ("SandPiano$Key", "strength", "I", true)
  | _ => ("SandPiano$Key", "pay", "I", true)
def tyX6 : Nat → FieldType := fun k => match k with
  | 0 => .int
  | 1 => .int
  | _ => .int
abbrev wsX60 : List Cond := u_ws RX6 TX6 3
theorem nmX6 : ∀ a, a < 3 → ∀ b, b < 3 → a ≠ b → (TX6 a).2.1 ≠ (TX6 b).2.1 := by decide +kernel
theorem tyX6_ok : ∀ k, k < 3 → parseFieldDescriptor (TX6 k).2.2.1 = some (tyX6 k) := by decide +kernel
abbrev cX6_init : ByteArray := prog_3_method_1_code
def yX6_init : MethodName := ⟨RX6, "<init>", "(III)V"⟩
def dkwX6_init_0 : List UInt8 := [42, 27, 28, 29, 183, 0, 3, 177]
abbrev dktX6_init_0 : List UInt8 := dkwX6_init_0 ++ []
theorem dksX6_init_0 : cX6_init.data.toList.drop 0 = dktX6_init_0 := by decide +kernel
theorem dX6_init_0 : decode cX6_init 0 = .ok (.aload_n 0, 1) := dk_42 (dk_at dksX6_init_0 0 rfl rfl)
theorem dX6_init_1 : decode cX6_init 1 = .ok (.iload_n 1, 1) := dk_27 (dk_at dksX6_init_0 1 rfl rfl)
theorem dX6_init_2 : decode cX6_init 2 = .ok (.iload_n 2, 1) := dk_28 (dk_at dksX6_init_0 2 rfl rfl)
theorem dX6_init_3 : decode cX6_init 3 = .ok (.iload_n 3, 1) := dk_29 (dk_at dksX6_init_0 3 rfl rfl)
theorem dX6_init_4 : decode cX6_init 4 = .ok (.invokespecial 3, 3) := dk_183 0 3 (dk_at dksX6_init_0 4 rfl rfl)
theorem dX6_init_7 : decode cX6_init 7 = .ok (.return_, 1) := dk_177 (dk_at dksX6_init_0 7 rfl rfl)
abbrev cX6_kind : ByteArray := prog_3_method_2_code
def yX6_kind : MethodName := ⟨RX6, "kind", "()I"⟩
theorem dX6_kind_0 : decode cX6_kind 0 = .ok (.iconst 3, 1) := by decide +kernel
theorem dX6_kind_1 : decode cX6_kind 1 = .ok (.ireturn, 1) := by decide +kernel
abbrev cX6_carries : ByteArray := prog_3_method_5_code
def yX6_carries : MethodName := ⟨RX6, "carries", "(LSandPiano$Sands;)I"⟩
def dkwX6_carries_0 : List UInt8 := [43, 180, 0, 28, 42, 182, 0, 13, 46, 172]
abbrev dktX6_carries_0 : List UInt8 := dkwX6_carries_0 ++ []
theorem dksX6_carries_0 : cX6_carries.data.toList.drop 0 = dktX6_carries_0 := by decide +kernel
theorem dX6_carries_0 : decode cX6_carries 0 = .ok (.aload_n 1, 1) := dk_43 (dk_at dksX6_carries_0 0 rfl rfl)
theorem dX6_carries_1 : decode cX6_carries 1 = .ok (.getfield 28, 3) := dk_180 0 28 (dk_at dksX6_carries_0 1 rfl rfl)
theorem dX6_carries_4 : decode cX6_carries 4 = .ok (.aload_n 0, 1) := dk_42 (dk_at dksX6_carries_0 4 rfl rfl)
theorem dX6_carries_5 : decode cX6_carries 5 = .ok (.invokevirtual 13, 3) := dk_182 0 13 (dk_at dksX6_carries_0 5 rfl rfl)
theorem dX6_carries_8 : decode cX6_carries 8 = .ok (.iaload, 1) := dk_46 (dk_at dksX6_carries_0 8 rfl rfl)
theorem dX6_carries_9 : decode cX6_carries 9 = .ok (.ireturn, 1) := dk_172 (dk_at dksX6_carries_0 9 rfl rfl)
abbrev cX6_throwSand : ByteArray := prog_3_method_4_code
def yX6_throwSand : MethodName := ⟨RX6, "throwSand", "(LSandPiano$Sands;I)V"⟩
def dkwX6_throwSand_0 : List UInt8 := [43, 42, 182, 0, 13, 42, 182, 0, 19, 4, 182, 0, 22, 87, 177]
abbrev dktX6_throwSand_0 : List UInt8 := dkwX6_throwSand_0 ++ []
theorem dksX6_throwSand_0 : cX6_throwSand.data.toList.drop 0 = dktX6_throwSand_0 := by decide +kernel
theorem dX6_throwSand_0 : decode cX6_throwSand 0 = .ok (.aload_n 1, 1) := dk_43 (dk_at dksX6_throwSand_0 0 rfl rfl)
theorem dX6_throwSand_1 : decode cX6_throwSand 1 = .ok (.aload_n 0, 1) := dk_42 (dk_at dksX6_throwSand_0 1 rfl rfl)
theorem dX6_throwSand_2 : decode cX6_throwSand 2 = .ok (.invokevirtual 13, 3) := dk_182 0 13 (dk_at dksX6_throwSand_0 2 rfl rfl)
theorem dX6_throwSand_5 : decode cX6_throwSand 5 = .ok (.aload_n 0, 1) := dk_42 (dk_at dksX6_throwSand_0 5 rfl rfl)
theorem dX6_throwSand_6 : decode cX6_throwSand 6 = .ok (.invokevirtual 19, 3) := dk_182 0 19 (dk_at dksX6_throwSand_0 6 rfl rfl)
theorem dX6_throwSand_9 : decode cX6_throwSand 9 = .ok (.iconst 1, 1) := dk_4 (dk_at dksX6_throwSand_0 9 rfl rfl)
theorem dX6_throwSand_10 : decode cX6_throwSand 10 = .ok (.invokevirtual 22, 3) := dk_182 0 22 (dk_at dksX6_throwSand_0 10 rfl rfl)
theorem dX6_throwSand_13 : decode cX6_throwSand 13 = .ok (.pop, 1) := dk_87 (dk_at dksX6_throwSand_0 13 rfl rfl)
theorem dX6_throwSand_14 : decode cX6_throwSand 14 = .ok (.return_, 1) := dk_177 (dk_at dksX6_throwSand_0 14 rfl rfl)
abbrev cX6_is : ByteArray := prog_3_method_3_code
def yX6_is : MethodName := ⟨RX6, "is", "(I)Z"⟩
def dkwX6_is_0 : List UInt8 := [27, 6, 159, 0, 11, 42, 27, 183, 0, 9, 153, 0, 7, 4, 167, 0, 4, 3, 172]
abbrev dktX6_is_0 : List UInt8 := dkwX6_is_0 ++ []
theorem dksX6_is_0 : cX6_is.data.toList.drop 0 = dktX6_is_0 := by decide +kernel
theorem dX6_is_0 : decode cX6_is 0 = .ok (.iload_n 1, 1) := dk_27 (dk_at dksX6_is_0 0 rfl rfl)
theorem dX6_is_1 : decode cX6_is 1 = .ok (.iconst 3, 1) := dk_6 (dk_at dksX6_is_0 1 rfl rfl)
theorem dX6_is_2 : decode cX6_is 2 = .ok (.if_icmp .eq 11, 3) := dk_159 0 11 (dk_at dksX6_is_0 2 rfl rfl)
theorem dX6_is_5 : decode cX6_is 5 = .ok (.aload_n 0, 1) := dk_42 (dk_at dksX6_is_0 5 rfl rfl)
theorem dX6_is_6 : decode cX6_is 6 = .ok (.iload_n 1, 1) := dk_27 (dk_at dksX6_is_0 6 rfl rfl)
theorem dX6_is_7 : decode cX6_is 7 = .ok (.invokespecial 9, 3) := dk_183 0 9 (dk_at dksX6_is_0 7 rfl rfl)
theorem dX6_is_10 : decode cX6_is 10 = .ok (.ifCond .eq 7, 3) := dk_153 0 7 (dk_at dksX6_is_0 10 rfl rfl)
theorem dX6_is_13 : decode cX6_is 13 = .ok (.iconst 1, 1) := dk_4 (dk_at dksX6_is_0 13 rfl rfl)
theorem dX6_is_14 : decode cX6_is 14 = .ok (.goto 4, 3) := dk_167 0 4 (dk_at dksX6_is_0 14 rfl rfl)
theorem dX6_is_17 : decode cX6_is 17 = .ok (.iconst 0, 1) := dk_3 (dk_at dksX6_is_0 17 rfl rfl)
theorem dX6_is_18 : decode cX6_is 18 = .ok (.ireturn, 1) := dk_172 (dk_at dksX6_is_0 18 rfl rfl)
theorem q98 : (Jvm.Cond.initialized "SandPiano$Crab") ∈ lw_all := lw_g (lw_at lw_m1 17 rfl) rfl
theorem q127 : (Jvm.Cond.fieldLinkNest "SandPiano$Crab" (28 : Nat) "SandPiano$Sands" "at" "[I" "SandPiano") ∈ lw_tbl := lw_at lw_m1 46 rfl
theorem q510 : (Jvm.Cond.instantiable "SandPiano$Crab" (3 : Nat)) ∈ lw_all := lw_g (lw_at lw_m2 189 rfl) rfl
theorem q512 : (Jvm.Cond.instanceMethod ({ cls := "SandPiano$Crab", name := "<init>", desc := "(III)V" } : Jvm.MethodName)) ∈ lw_all := lw_g (lw_at lw_m2 191 rfl) rfl
theorem q513 : (Jvm.Cond.code ({ cls := "SandPiano$Crab", name := "<init>", desc := "(III)V" } : Jvm.MethodName) prog_3_method_1_code (4 : Nat) (Option.none : Option Jvm.ClassFile.FieldType)) ∈ lw_all := lw_g (lw_at lw_m2 192 rfl) rfl
theorem q514 : (Jvm.Cond.methodLink "SandPiano$Crab" (3 : Nat) ({ cls := "SandPiano$Key", name := "<init>", desc := "(III)V" } : Jvm.MethodName)) ∈ lw_all := lw_g (lw_at lw_m2 193 rfl) rfl
theorem q515 : (Jvm.Cond.laysFinal "SandPiano$Crab" "SandPiano$Key" "place" "I") ∈ lw_all := lw_g (lw_at lw_m2 194 rfl) rfl
theorem q516 : (Jvm.Cond.laysFinal "SandPiano$Crab" "SandPiano$Key" "strength" "I") ∈ lw_all := lw_g (lw_at lw_m2 195 rfl) rfl
theorem q517 : (Jvm.Cond.laysFinal "SandPiano$Crab" "SandPiano$Key" "pay" "I") ∈ lw_all := lw_g (lw_at lw_m2 196 rfl) rfl
theorem q518 : (Jvm.Cond.superclass "SandPiano$Crab" "SandPiano$Key") ∈ lw_all := lw_g (lw_at lw_m2 197 rfl) rfl
theorem q564 : (Jvm.Cond.selects "SandPiano$Crab" ({ cls := "SandPiano$Key", name := "kind", desc := "()I" } : Jvm.MethodName) ({ cls := "SandPiano$Crab", name := "kind", desc := "()I" } : Jvm.MethodName)) ∈ lw_all := lw_g (lw_at lw_m3 3 rfl) rfl
theorem q565 : (Jvm.Cond.instanceMethod ({ cls := "SandPiano$Crab", name := "kind", desc := "()I" } : Jvm.MethodName)) ∈ lw_all := lw_g (lw_at lw_m3 4 rfl) rfl
theorem q566 : (Jvm.Cond.code ({ cls := "SandPiano$Crab", name := "kind", desc := "()I" } : Jvm.MethodName) prog_3_method_2_code (1 : Nat) (Option.some Jvm.ClassFile.FieldType.int)) ∈ lw_all := lw_g (lw_at lw_m3 5 rfl) rfl
theorem q582 : (Jvm.Cond.selects "SandPiano$Crab" ({ cls := "SandPiano$Key", name := "strength", desc := "()I" } : Jvm.MethodName) ({ cls := "SandPiano$Key", name := "strength", desc := "()I" } : Jvm.MethodName)) ∈ lw_all := lw_g (lw_at lw_m3 21 rfl) rfl
theorem q592 : (Jvm.Cond.selects "SandPiano$Crab" ({ cls := "SandPiano$Key", name := "pay", desc := "()I" } : Jvm.MethodName) ({ cls := "SandPiano$Key", name := "pay", desc := "()I" } : Jvm.MethodName)) ∈ lw_all := lw_g (lw_at lw_m3 31 rfl) rfl
theorem q602 : (Jvm.Cond.selects "SandPiano$Crab" ({ cls := "SandPiano$Key", name := "plays", desc := "(LSandPiano$Sands;)Z" } : Jvm.MethodName) ({ cls := "SandPiano$Key", name := "plays", desc := "(LSandPiano$Sands;)Z" } : Jvm.MethodName)) ∈ lw_all := lw_g (lw_at lw_m3 41 rfl) rfl
theorem q612 : (Jvm.Cond.selects "SandPiano$Crab" ({ cls := "SandPiano$Key", name := "bears", desc := "()I" } : Jvm.MethodName) ({ cls := "SandPiano$Key", name := "bears", desc := "()I" } : Jvm.MethodName)) ∈ lw_all := lw_g (lw_at lw_m3 51 rfl) rfl
theorem q676 : (Jvm.Cond.instanceMethod ({ cls := "SandPiano$Crab", name := "carries", desc := "(LSandPiano$Sands;)I" } : Jvm.MethodName)) ∈ lw_all := lw_g (lw_at lw_m3 115 rfl) rfl
theorem q677 : (Jvm.Cond.selects "SandPiano$Crab" ({ cls := "SandPiano$Crab", name := "carries", desc := "(LSandPiano$Sands;)I" } : Jvm.MethodName) ({ cls := "SandPiano$Crab", name := "carries", desc := "(LSandPiano$Sands;)I" } : Jvm.MethodName)) ∈ lw_all := lw_g (lw_at lw_m3 116 rfl) rfl
theorem q678 : (Jvm.Cond.code ({ cls := "SandPiano$Crab", name := "carries", desc := "(LSandPiano$Sands;)I" } : Jvm.MethodName) prog_3_method_5_code (2 : Nat) (Option.some Jvm.ClassFile.FieldType.int)) ∈ lw_all := lw_g (lw_at lw_m3 117 rfl) rfl
theorem q679 : (Jvm.Cond.methodLink "SandPiano$Crab" (13 : Nat) ({ cls := "SandPiano$Crab", name := "left", desc := "()I" } : Jvm.MethodName)) ∈ lw_all := lw_g (lw_at lw_m3 118 rfl) rfl
theorem q680 : (Jvm.Cond.sameMethod "SandPiano$Crab" "SandPiano$Key" "left" "()I") ∈ lw_all := lw_g (lw_at lw_m3 119 rfl) rfl
theorem q682 : (Jvm.Cond.selects "SandPiano$Crab" ({ cls := "SandPiano$Crab", name := "left", desc := "()I" } : Jvm.MethodName) ({ cls := "SandPiano$Key", name := "left", desc := "()I" } : Jvm.MethodName)) ∈ lw_all := lw_g (lw_at lw_m3 121 rfl) rfl
theorem q742 : (Jvm.Cond.selects "SandPiano$Crab" ({ cls := "SandPiano$Key", name := "throwSand", desc := "(LSandPiano$Sands;I)V" } : Jvm.MethodName) ({ cls := "SandPiano$Crab", name := "throwSand", desc := "(LSandPiano$Sands;I)V" } : Jvm.MethodName)) ∈ lw_all := lw_g (lw_at lw_m3 181 rfl) rfl
theorem q743 : (Jvm.Cond.instanceMethod ({ cls := "SandPiano$Crab", name := "throwSand", desc := "(LSandPiano$Sands;I)V" } : Jvm.MethodName)) ∈ lw_all := lw_g (lw_at lw_m3 182 rfl) rfl
theorem q744 : (Jvm.Cond.code ({ cls := "SandPiano$Crab", name := "throwSand", desc := "(LSandPiano$Sands;I)V" } : Jvm.MethodName) prog_3_method_4_code (3 : Nat) (Option.none : Option Jvm.ClassFile.FieldType)) ∈ lw_all := lw_g (lw_at lw_m3 183 rfl) rfl
theorem q745 : (Jvm.Cond.methodLink "SandPiano$Crab" (19 : Nat) ({ cls := "SandPiano$Crab", name := "place", desc := "()I" } : Jvm.MethodName)) ∈ lw_all := lw_g (lw_at lw_m3 184 rfl) rfl
theorem q746 : (Jvm.Cond.sameMethod "SandPiano$Crab" "SandPiano$Key" "place" "()I") ∈ lw_all := lw_g (lw_at lw_m3 185 rfl) rfl
theorem q747 : (Jvm.Cond.selects "SandPiano$Crab" ({ cls := "SandPiano$Crab", name := "place", desc := "()I" } : Jvm.MethodName) ({ cls := "SandPiano$Key", name := "place", desc := "()I" } : Jvm.MethodName)) ∈ lw_all := lw_g (lw_at lw_m3 186 rfl) rfl
theorem q748 : (Jvm.Cond.methodLink "SandPiano$Crab" (22 : Nat) ({ cls := "SandPiano$Sands", name := "move", desc := "(III)I" } : Jvm.MethodName)) ∈ lw_all := lw_g (lw_at lw_m3 187 rfl) rfl
theorem q1010 : (Jvm.Cond.selects "SandPiano$Crab" ({ cls := "SandPiano$Key", name := "is", desc := "(I)Z" } : Jvm.MethodName) ({ cls := "SandPiano$Crab", name := "is", desc := "(I)Z" } : Jvm.MethodName)) ∈ lw_all := lw_g (lw_at lw_m4 209 rfl) rfl
theorem q1011 : (Jvm.Cond.instanceMethod ({ cls := "SandPiano$Crab", name := "is", desc := "(I)Z" } : Jvm.MethodName)) ∈ lw_all := lw_g (lw_at lw_m4 210 rfl) rfl
theorem q1012 : (Jvm.Cond.code ({ cls := "SandPiano$Crab", name := "is", desc := "(I)Z" } : Jvm.MethodName) prog_3_method_3_code (2 : Nat) (Option.some Jvm.ClassFile.FieldType.boolean)) ∈ lw_all := lw_g (lw_at lw_m4 211 rfl) rfl
theorem q1013 : (Jvm.Cond.methodLink "SandPiano$Crab" (9 : Nat) ({ cls := "SandPiano$Key", name := "is", desc := "(I)Z" } : Jvm.MethodName)) ∈ lw_all := lw_g (lw_at lw_m4 212 rfl) rfl
theorem q1546 : (Jvm.Cond.selects "SandPiano$Crab" ({ cls := "SandPiano$Key", name := "right", desc := "(I)I" } : Jvm.MethodName) ({ cls := "SandPiano$Key", name := "right", desc := "(I)I" } : Jvm.MethodName)) ∈ lw_all := lw_g (lw_at lw_m7 25 rfl) rfl
theorem q1558 : (Jvm.Cond.castable "SandPiano$Crab" "SandPiano$Key") ∈ lw_tbl := lw_at lw_m7 37 rfl
theorem in_X6 : ∀ w ∈ wsX60, w ∈ lw_all := lw_in wsX60 [515, 516, 517] (by decide +kernel) (by decide +kernel)

/-! SandPiano$Drum -/
set_option maxRecDepth 100000
def RX7 : String := "SandPiano$Drum"
def TX7 : u_T := fun k => match k with
  | 0 => ("SandPiano$Key", "place", "I", true)
  | 1 => ("SandPiano$Key", "strength", "I", true)
  | _ => ("SandPiano$Key", "pay", "I", true)
def tyX7 : Nat → FieldType := fun k => match k with
  | 0 => .int
  | 1 => .int
  | _ => .int
abbrev wsX70 : List Cond := u_ws RX7 TX7 3
theorem nmX7 : ∀ a, a < 3 → ∀ b, b < 3 → a ≠ b → (TX7 a).2.1 ≠ (TX7 b).2.1 := by decide +kernel
theorem tyX7_ok : ∀ k, k < 3 → parseFieldDescriptor (TX7 k).2.2.1 = some (tyX7 k) := by decide +kernel
abbrev cX7_init : ByteArray := prog_4_method_1_code
def yX7_init : MethodName := ⟨RX7, "<init>", "(III)V"⟩
def dkwX7_init_0 : List UInt8 := [42, 27, 28, 29, 183, 0, 3, 177]
abbrev dktX7_init_0 : List UInt8 := dkwX7_init_0 ++ []
theorem dksX7_init_0 : cX7_init.data.toList.drop 0 = dktX7_init_0 := by decide +kernel
theorem dX7_init_0 : decode cX7_init 0 = .ok (.aload_n 0, 1) := dk_42 (dk_at dksX7_init_0 0 rfl rfl)
theorem dX7_init_1 : decode cX7_init 1 = .ok (.iload_n 1, 1) := dk_27 (dk_at dksX7_init_0 1 rfl rfl)
theorem dX7_init_2 : decode cX7_init 2 = .ok (.iload_n 2, 1) := dk_28 (dk_at dksX7_init_0 2 rfl rfl)
theorem dX7_init_3 : decode cX7_init 3 = .ok (.iload_n 3, 1) := dk_29 (dk_at dksX7_init_0 3 rfl rfl)
theorem dX7_init_4 : decode cX7_init 4 = .ok (.invokespecial 3, 3) := dk_183 0 3 (dk_at dksX7_init_0 4 rfl rfl)
theorem dX7_init_7 : decode cX7_init 7 = .ok (.return_, 1) := dk_177 (dk_at dksX7_init_0 7 rfl rfl)
abbrev cX7_kind : ByteArray := prog_4_method_2_code
def yX7_kind : MethodName := ⟨RX7, "kind", "()I"⟩
theorem dX7_kind_0 : decode cX7_kind 0 = .ok (.iconst 4, 1) := by decide +kernel
theorem dX7_kind_1 : decode cX7_kind 1 = .ok (.ireturn, 1) := by decide +kernel
abbrev cX7_before : ByteArray := prog_4_method_5_code
def yX7_before : MethodName := ⟨RX7, "before", "()I"⟩
theorem dX7_before_0 : decode cX7_before 0 = .ok (.aload_n 0, 1) := by decide +kernel
theorem dX7_before_1 : decode cX7_before 1 = .ok (.invokevirtual 13, 3) := by decide +kernel
theorem dX7_before_4 : decode cX7_before 4 = .ok (.ireturn, 1) := by decide +kernel
abbrev cX7_throwSand : ByteArray := prog_4_method_4_code
def yX7_throwSand : MethodName := ⟨RX7, "throwSand", "(LSandPiano$Sands;I)V"⟩
def dkwX7_throwSand_1 : List UInt8 := [4, 182, 0, 22, 87, 177]
abbrev dktX7_throwSand_1 : List UInt8 := dkwX7_throwSand_1 ++ []
def dkwX7_throwSand_0 : List UInt8 := [43, 42, 182, 0, 13, 42, 182, 0, 19, 4, 182, 0, 22, 87, 43, 42, 182, 0, 13, 42, 28, 182, 0, 28]
abbrev dktX7_throwSand_0 : List UInt8 := dkwX7_throwSand_0 ++ dktX7_throwSand_1
theorem dksX7_throwSand_0 : cX7_throwSand.data.toList.drop 0 = dktX7_throwSand_0 := by decide +kernel
theorem dksX7_throwSand_1 : cX7_throwSand.data.toList.drop 24 = dktX7_throwSand_1 := dk_seg dksX7_throwSand_0 24 rfl rfl
theorem dX7_throwSand_0 : decode cX7_throwSand 0 = .ok (.aload_n 1, 1) := dk_43 (dk_at dksX7_throwSand_0 0 rfl rfl)
theorem dX7_throwSand_1 : decode cX7_throwSand 1 = .ok (.aload_n 0, 1) := dk_42 (dk_at dksX7_throwSand_0 1 rfl rfl)
theorem dX7_throwSand_2 : decode cX7_throwSand 2 = .ok (.invokevirtual 13, 3) := dk_182 0 13 (dk_at dksX7_throwSand_0 2 rfl rfl)
theorem dX7_throwSand_5 : decode cX7_throwSand 5 = .ok (.aload_n 0, 1) := dk_42 (dk_at dksX7_throwSand_0 5 rfl rfl)
theorem dX7_throwSand_6 : decode cX7_throwSand 6 = .ok (.invokevirtual 19, 3) := dk_182 0 19 (dk_at dksX7_throwSand_0 6 rfl rfl)
theorem dX7_throwSand_9 : decode cX7_throwSand 9 = .ok (.iconst 1, 1) := dk_4 (dk_at dksX7_throwSand_0 9 rfl rfl)
theorem dX7_throwSand_10 : decode cX7_throwSand 10 = .ok (.invokevirtual 22, 3) := dk_182 0 22 (dk_at dksX7_throwSand_0 10 rfl rfl)
theorem dX7_throwSand_13 : decode cX7_throwSand 13 = .ok (.pop, 1) := dk_87 (dk_at dksX7_throwSand_0 13 rfl rfl)
theorem dX7_throwSand_14 : decode cX7_throwSand 14 = .ok (.aload_n 1, 1) := dk_43 (dk_at dksX7_throwSand_0 14 rfl rfl)
theorem dX7_throwSand_15 : decode cX7_throwSand 15 = .ok (.aload_n 0, 1) := dk_42 (dk_at dksX7_throwSand_0 15 rfl rfl)
theorem dX7_throwSand_16 : decode cX7_throwSand 16 = .ok (.invokevirtual 13, 3) := dk_182 0 13 (dk_at dksX7_throwSand_0 16 rfl rfl)
theorem dX7_throwSand_19 : decode cX7_throwSand 19 = .ok (.aload_n 0, 1) := dk_42 (dk_at dksX7_throwSand_0 19 rfl rfl)
theorem dX7_throwSand_20 : decode cX7_throwSand 20 = .ok (.iload_n 2, 1) := dk_28 (dk_at dksX7_throwSand_0 20 rfl rfl)
theorem dX7_throwSand_21 : decode cX7_throwSand 21 = .ok (.invokevirtual 28, 3) := dk_182 0 28 (dk_at dksX7_throwSand_0 21 rfl rfl)
theorem dX7_throwSand_24 : decode cX7_throwSand 24 = .ok (.iconst 1, 1) := dk_4 (dk_at dksX7_throwSand_1 0 rfl rfl)
theorem dX7_throwSand_25 : decode cX7_throwSand 25 = .ok (.invokevirtual 22, 3) := dk_182 0 22 (dk_at dksX7_throwSand_1 1 rfl rfl)
theorem dX7_throwSand_28 : decode cX7_throwSand 28 = .ok (.pop, 1) := dk_87 (dk_at dksX7_throwSand_1 4 rfl rfl)
theorem dX7_throwSand_29 : decode cX7_throwSand 29 = .ok (.return_, 1) := dk_177 (dk_at dksX7_throwSand_1 5 rfl rfl)
abbrev cX7_is : ByteArray := prog_4_method_3_code
def yX7_is : MethodName := ⟨RX7, "is", "(I)Z"⟩
def dkwX7_is_0 : List UInt8 := [27, 7, 159, 0, 11, 42, 27, 183, 0, 9, 153, 0, 7, 4, 167, 0, 4, 3, 172]
abbrev dktX7_is_0 : List UInt8 := dkwX7_is_0 ++ []
theorem dksX7_is_0 : cX7_is.data.toList.drop 0 = dktX7_is_0 := by decide +kernel
theorem dX7_is_0 : decode cX7_is 0 = .ok (.iload_n 1, 1) := dk_27 (dk_at dksX7_is_0 0 rfl rfl)
theorem dX7_is_1 : decode cX7_is 1 = .ok (.iconst 4, 1) := dk_7 (dk_at dksX7_is_0 1 rfl rfl)
theorem dX7_is_2 : decode cX7_is 2 = .ok (.if_icmp .eq 11, 3) := dk_159 0 11 (dk_at dksX7_is_0 2 rfl rfl)
theorem dX7_is_5 : decode cX7_is 5 = .ok (.aload_n 0, 1) := dk_42 (dk_at dksX7_is_0 5 rfl rfl)
theorem dX7_is_6 : decode cX7_is 6 = .ok (.iload_n 1, 1) := dk_27 (dk_at dksX7_is_0 6 rfl rfl)
theorem dX7_is_7 : decode cX7_is 7 = .ok (.invokespecial 9, 3) := dk_183 0 9 (dk_at dksX7_is_0 7 rfl rfl)
theorem dX7_is_10 : decode cX7_is 10 = .ok (.ifCond .eq 7, 3) := dk_153 0 7 (dk_at dksX7_is_0 10 rfl rfl)
theorem dX7_is_13 : decode cX7_is 13 = .ok (.iconst 1, 1) := dk_4 (dk_at dksX7_is_0 13 rfl rfl)
theorem dX7_is_14 : decode cX7_is 14 = .ok (.goto 4, 3) := dk_167 0 4 (dk_at dksX7_is_0 14 rfl rfl)
theorem dX7_is_17 : decode cX7_is 17 = .ok (.iconst 0, 1) := dk_3 (dk_at dksX7_is_0 17 rfl rfl)
theorem dX7_is_18 : decode cX7_is 18 = .ok (.ireturn, 1) := dk_172 (dk_at dksX7_is_0 18 rfl rfl)
theorem q99 : (Jvm.Cond.initialized "SandPiano$Drum") ∈ lw_all := lw_g (lw_at lw_m1 18 rfl) rfl
theorem q520 : (Jvm.Cond.instantiable "SandPiano$Drum" (3 : Nat)) ∈ lw_all := lw_g (lw_at lw_m2 199 rfl) rfl
theorem q522 : (Jvm.Cond.instanceMethod ({ cls := "SandPiano$Drum", name := "<init>", desc := "(III)V" } : Jvm.MethodName)) ∈ lw_all := lw_g (lw_at lw_m2 201 rfl) rfl
theorem q523 : (Jvm.Cond.code ({ cls := "SandPiano$Drum", name := "<init>", desc := "(III)V" } : Jvm.MethodName) prog_4_method_1_code (4 : Nat) (Option.none : Option Jvm.ClassFile.FieldType)) ∈ lw_all := lw_g (lw_at lw_m2 202 rfl) rfl
theorem q524 : (Jvm.Cond.methodLink "SandPiano$Drum" (3 : Nat) ({ cls := "SandPiano$Bass", name := "<init>", desc := "(III)V" } : Jvm.MethodName)) ∈ lw_all := lw_g (lw_at lw_m2 203 rfl) rfl
theorem q525 : (Jvm.Cond.laysFinal "SandPiano$Drum" "SandPiano$Key" "place" "I") ∈ lw_all := lw_g (lw_at lw_m2 204 rfl) rfl
theorem q526 : (Jvm.Cond.laysFinal "SandPiano$Drum" "SandPiano$Key" "strength" "I") ∈ lw_all := lw_g (lw_at lw_m2 205 rfl) rfl
theorem q527 : (Jvm.Cond.laysFinal "SandPiano$Drum" "SandPiano$Key" "pay" "I") ∈ lw_all := lw_g (lw_at lw_m2 206 rfl) rfl
theorem q528 : (Jvm.Cond.superclass "SandPiano$Drum" "SandPiano$Bass") ∈ lw_all := lw_g (lw_at lw_m2 207 rfl) rfl
theorem q567 : (Jvm.Cond.selects "SandPiano$Drum" ({ cls := "SandPiano$Key", name := "kind", desc := "()I" } : Jvm.MethodName) ({ cls := "SandPiano$Drum", name := "kind", desc := "()I" } : Jvm.MethodName)) ∈ lw_all := lw_g (lw_at lw_m3 6 rfl) rfl
theorem q568 : (Jvm.Cond.instanceMethod ({ cls := "SandPiano$Drum", name := "kind", desc := "()I" } : Jvm.MethodName)) ∈ lw_all := lw_g (lw_at lw_m3 7 rfl) rfl
theorem q569 : (Jvm.Cond.code ({ cls := "SandPiano$Drum", name := "kind", desc := "()I" } : Jvm.MethodName) prog_4_method_2_code (1 : Nat) (Option.some Jvm.ClassFile.FieldType.int)) ∈ lw_all := lw_g (lw_at lw_m3 8 rfl) rfl
theorem q583 : (Jvm.Cond.selects "SandPiano$Drum" ({ cls := "SandPiano$Key", name := "strength", desc := "()I" } : Jvm.MethodName) ({ cls := "SandPiano$Key", name := "strength", desc := "()I" } : Jvm.MethodName)) ∈ lw_all := lw_g (lw_at lw_m3 22 rfl) rfl
theorem q593 : (Jvm.Cond.selects "SandPiano$Drum" ({ cls := "SandPiano$Key", name := "pay", desc := "()I" } : Jvm.MethodName) ({ cls := "SandPiano$Key", name := "pay", desc := "()I" } : Jvm.MethodName)) ∈ lw_all := lw_g (lw_at lw_m3 32 rfl) rfl
theorem q603 : (Jvm.Cond.selects "SandPiano$Drum" ({ cls := "SandPiano$Key", name := "plays", desc := "(LSandPiano$Sands;)Z" } : Jvm.MethodName) ({ cls := "SandPiano$Key", name := "plays", desc := "(LSandPiano$Sands;)Z" } : Jvm.MethodName)) ∈ lw_all := lw_g (lw_at lw_m3 42 rfl) rfl
theorem q613 : (Jvm.Cond.selects "SandPiano$Drum" ({ cls := "SandPiano$Key", name := "bears", desc := "()I" } : Jvm.MethodName) ({ cls := "SandPiano$Key", name := "bears", desc := "()I" } : Jvm.MethodName)) ∈ lw_all := lw_g (lw_at lw_m3 52 rfl) rfl
theorem q645 : (Jvm.Cond.selects "SandPiano$Drum" ({ cls := "SandPiano$Bass", name := "throwsNow", desc := "(LSandPiano$Sands;)I" } : Jvm.MethodName) ({ cls := "SandPiano$Bass", name := "throwsNow", desc := "(LSandPiano$Sands;)I" } : Jvm.MethodName)) ∈ lw_all := lw_g (lw_at lw_m3 84 rfl) rfl
theorem q651 : (Jvm.Cond.selects "SandPiano$Drum" ({ cls := "SandPiano$Bass", name := "place", desc := "()I" } : Jvm.MethodName) ({ cls := "SandPiano$Key", name := "place", desc := "()I" } : Jvm.MethodName)) ∈ lw_all := lw_g (lw_at lw_m3 90 rfl) rfl
theorem q686 : (Jvm.Cond.instanceMethod ({ cls := "SandPiano$Drum", name := "before", desc := "()I" } : Jvm.MethodName)) ∈ lw_all := lw_g (lw_at lw_m3 125 rfl) rfl
theorem q687 : (Jvm.Cond.selects "SandPiano$Drum" ({ cls := "SandPiano$Drum", name := "before", desc := "()I" } : Jvm.MethodName) ({ cls := "SandPiano$Drum", name := "before", desc := "()I" } : Jvm.MethodName)) ∈ lw_all := lw_g (lw_at lw_m3 126 rfl) rfl
theorem q688 : (Jvm.Cond.code ({ cls := "SandPiano$Drum", name := "before", desc := "()I" } : Jvm.MethodName) prog_4_method_5_code (1 : Nat) (Option.some Jvm.ClassFile.FieldType.int)) ∈ lw_all := lw_g (lw_at lw_m3 127 rfl) rfl
theorem q689 : (Jvm.Cond.methodLink "SandPiano$Drum" (13 : Nat) ({ cls := "SandPiano$Drum", name := "place", desc := "()I" } : Jvm.MethodName)) ∈ lw_all := lw_g (lw_at lw_m3 128 rfl) rfl
theorem q690 : (Jvm.Cond.sameMethod "SandPiano$Drum" "SandPiano$Key" "place" "()I") ∈ lw_all := lw_g (lw_at lw_m3 129 rfl) rfl
theorem q691 : (Jvm.Cond.selects "SandPiano$Drum" ({ cls := "SandPiano$Drum", name := "place", desc := "()I" } : Jvm.MethodName) ({ cls := "SandPiano$Key", name := "place", desc := "()I" } : Jvm.MethodName)) ∈ lw_all := lw_g (lw_at lw_m3 130 rfl) rfl
theorem q736 : (Jvm.Cond.selects "SandPiano$Drum" ({ cls := "SandPiano$Bass", name := "left", desc := "()I" } : Jvm.MethodName) ({ cls := "SandPiano$Key", name := "left", desc := "()I" } : Jvm.MethodName)) ∈ lw_all := lw_g (lw_at lw_m3 175 rfl) rfl
theorem q749 : (Jvm.Cond.selects "SandPiano$Drum" ({ cls := "SandPiano$Key", name := "throwSand", desc := "(LSandPiano$Sands;I)V" } : Jvm.MethodName) ({ cls := "SandPiano$Drum", name := "throwSand", desc := "(LSandPiano$Sands;I)V" } : Jvm.MethodName)) ∈ lw_all := lw_g (lw_at lw_m3 188 rfl) rfl
theorem q750 : (Jvm.Cond.instanceMethod ({ cls := "SandPiano$Drum", name := "throwSand", desc := "(LSandPiano$Sands;I)V" } : Jvm.MethodName)) ∈ lw_all := lw_g (lw_at lw_m3 189 rfl) rfl
theorem q751 : (Jvm.Cond.code ({ cls := "SandPiano$Drum", name := "throwSand", desc := "(LSandPiano$Sands;I)V" } : Jvm.MethodName) prog_4_method_4_code (3 : Nat) (Option.none : Option Jvm.ClassFile.FieldType)) ∈ lw_all := lw_g (lw_at lw_m3 190 rfl) rfl
theorem q752 : (Jvm.Cond.methodLink "SandPiano$Drum" (19 : Nat) ({ cls := "SandPiano$Drum", name := "left", desc := "()I" } : Jvm.MethodName)) ∈ lw_all := lw_g (lw_at lw_m3 191 rfl) rfl
theorem q753 : (Jvm.Cond.sameMethod "SandPiano$Drum" "SandPiano$Key" "left" "()I") ∈ lw_all := lw_g (lw_at lw_m3 192 rfl) rfl
theorem q754 : (Jvm.Cond.selects "SandPiano$Drum" ({ cls := "SandPiano$Drum", name := "left", desc := "()I" } : Jvm.MethodName) ({ cls := "SandPiano$Key", name := "left", desc := "()I" } : Jvm.MethodName)) ∈ lw_all := lw_g (lw_at lw_m3 193 rfl) rfl
theorem q755 : (Jvm.Cond.methodLink "SandPiano$Drum" (22 : Nat) ({ cls := "SandPiano$Sands", name := "move", desc := "(III)I" } : Jvm.MethodName)) ∈ lw_all := lw_g (lw_at lw_m3 194 rfl) rfl
theorem q756 : (Jvm.Cond.methodLink "SandPiano$Drum" (28 : Nat) ({ cls := "SandPiano$Drum", name := "right", desc := "(I)I" } : Jvm.MethodName)) ∈ lw_all := lw_g (lw_at lw_m3 195 rfl) rfl
theorem q757 : (Jvm.Cond.sameMethod "SandPiano$Drum" "SandPiano$Key" "right" "(I)I") ∈ lw_all := lw_g (lw_at lw_m3 196 rfl) rfl
theorem q759 : (Jvm.Cond.selects "SandPiano$Drum" ({ cls := "SandPiano$Drum", name := "right", desc := "(I)I" } : Jvm.MethodName) ({ cls := "SandPiano$Key", name := "right", desc := "(I)I" } : Jvm.MethodName)) ∈ lw_all := lw_g (lw_at lw_m3 198 rfl) rfl
theorem q1014 : (Jvm.Cond.selects "SandPiano$Drum" ({ cls := "SandPiano$Key", name := "is", desc := "(I)Z" } : Jvm.MethodName) ({ cls := "SandPiano$Drum", name := "is", desc := "(I)Z" } : Jvm.MethodName)) ∈ lw_all := lw_g (lw_at lw_m4 213 rfl) rfl
theorem q1015 : (Jvm.Cond.instanceMethod ({ cls := "SandPiano$Drum", name := "is", desc := "(I)Z" } : Jvm.MethodName)) ∈ lw_all := lw_g (lw_at lw_m4 214 rfl) rfl
theorem q1016 : (Jvm.Cond.code ({ cls := "SandPiano$Drum", name := "is", desc := "(I)Z" } : Jvm.MethodName) prog_4_method_3_code (2 : Nat) (Option.some Jvm.ClassFile.FieldType.boolean)) ∈ lw_all := lw_g (lw_at lw_m4 215 rfl) rfl
theorem q1017 : (Jvm.Cond.methodLink "SandPiano$Drum" (9 : Nat) ({ cls := "SandPiano$Bass", name := "is", desc := "(I)Z" } : Jvm.MethodName)) ∈ lw_all := lw_g (lw_at lw_m4 216 rfl) rfl
theorem q1547 : (Jvm.Cond.selects "SandPiano$Drum" ({ cls := "SandPiano$Key", name := "right", desc := "(I)I" } : Jvm.MethodName) ({ cls := "SandPiano$Key", name := "right", desc := "(I)I" } : Jvm.MethodName)) ∈ lw_all := lw_g (lw_at lw_m7 26 rfl) rfl
theorem q1554 : (Jvm.Cond.castable "SandPiano$Drum" "SandPiano$Bass") ∈ lw_tbl := lw_at lw_m7 33 rfl
theorem q1559 : (Jvm.Cond.castable "SandPiano$Drum" "SandPiano$Key") ∈ lw_tbl := lw_at lw_m7 38 rfl
theorem in_X7 : ∀ w ∈ wsX70, w ∈ lw_all := lw_in wsX70 [525, 526, 527] (by decide +kernel) (by decide +kernel)

/-! SandPiano$Ring -/
set_option maxRecDepth 100000
def RX8 : String := "SandPiano$Ring"
def TX8 : u_T := fun k => match k with
  | 0 => ("SandPiano$Key", "place", "I", true)
  | 1 => ("SandPiano$Key", "strength", "I", true)
  | _ => ("SandPiano$Key", "pay", "I", true)
def tyX8 : Nat → FieldType := fun k => match k with
  | 0 => .int
  | 1 => .int
  | _ => .int
abbrev wsX80 : List Cond := u_ws RX8 TX8 3
theorem nmX8 : ∀ a, a < 3 → ∀ b, b < 3 → a ≠ b → (TX8 a).2.1 ≠ (TX8 b).2.1 := by decide +kernel
theorem tyX8_ok : ∀ k, k < 3 → parseFieldDescriptor (TX8 k).2.2.1 = some (tyX8 k) := by decide +kernel
abbrev cX8_init : ByteArray := prog_7_method_1_code
def yX8_init : MethodName := ⟨RX8, "<init>", "(III)V"⟩
def dkwX8_init_0 : List UInt8 := [42, 27, 28, 29, 183, 0, 3, 177]
abbrev dktX8_init_0 : List UInt8 := dkwX8_init_0 ++ []
theorem dksX8_init_0 : cX8_init.data.toList.drop 0 = dktX8_init_0 := by decide +kernel
theorem dX8_init_0 : decode cX8_init 0 = .ok (.aload_n 0, 1) := dk_42 (dk_at dksX8_init_0 0 rfl rfl)
theorem dX8_init_1 : decode cX8_init 1 = .ok (.iload_n 1, 1) := dk_27 (dk_at dksX8_init_0 1 rfl rfl)
theorem dX8_init_2 : decode cX8_init 2 = .ok (.iload_n 2, 1) := dk_28 (dk_at dksX8_init_0 2 rfl rfl)
theorem dX8_init_3 : decode cX8_init 3 = .ok (.iload_n 3, 1) := dk_29 (dk_at dksX8_init_0 3 rfl rfl)
theorem dX8_init_4 : decode cX8_init 4 = .ok (.invokespecial 3, 3) := dk_183 0 3 (dk_at dksX8_init_0 4 rfl rfl)
theorem dX8_init_7 : decode cX8_init 7 = .ok (.return_, 1) := dk_177 (dk_at dksX8_init_0 7 rfl rfl)
abbrev cX8_kind : ByteArray := prog_7_method_2_code
def yX8_kind : MethodName := ⟨RX8, "kind", "()I"⟩
theorem dX8_kind_0 : decode cX8_kind 0 = .ok (.iconst 5, 1) := by decide +kernel
theorem dX8_kind_1 : decode cX8_kind 1 = .ok (.ireturn, 1) := by decide +kernel
abbrev cX8_bears : ByteArray := prog_7_method_4_code
def yX8_bears : MethodName := ⟨RX8, "bears", "()I"⟩
theorem dX8_bears_0 : decode cX8_bears 0 = .ok (.ldc 15, 2) := by decide +kernel
theorem dX8_bears_2 : decode cX8_bears 2 = .ok (.ireturn, 1) := by decide +kernel
abbrev cX8_silent : ByteArray := prog_7_method_5_code
def yX8_silent : MethodName := ⟨RX8, "silent", "(LSandPiano;)I"⟩
def dkwX8_silent_0 : List UInt8 := [43, 180, 0, 16, 43, 182, 0, 20, 184, 0, 24, 100, 172]
abbrev dktX8_silent_0 : List UInt8 := dkwX8_silent_0 ++ []
theorem dksX8_silent_0 : cX8_silent.data.toList.drop 0 = dktX8_silent_0 := by decide +kernel
theorem dX8_silent_0 : decode cX8_silent 0 = .ok (.aload_n 1, 1) := dk_43 (dk_at dksX8_silent_0 0 rfl rfl)
theorem dX8_silent_1 : decode cX8_silent 1 = .ok (.getfield 16, 3) := dk_180 0 16 (dk_at dksX8_silent_0 1 rfl rfl)
theorem dX8_silent_4 : decode cX8_silent 4 = .ok (.aload_n 1, 1) := dk_43 (dk_at dksX8_silent_0 4 rfl rfl)
theorem dX8_silent_5 : decode cX8_silent 5 = .ok (.invokevirtual 20, 3) := dk_182 0 20 (dk_at dksX8_silent_0 5 rfl rfl)
theorem dX8_silent_8 : decode cX8_silent 8 = .ok (.invokestatic 24, 3) := dk_184 0 24 (dk_at dksX8_silent_0 8 rfl rfl)
theorem dX8_silent_11 : decode cX8_silent 11 = .ok (.isub, 1) := dk_100 (dk_at dksX8_silent_0 11 rfl rfl)
theorem dX8_silent_12 : decode cX8_silent 12 = .ok (.ireturn, 1) := dk_172 (dk_at dksX8_silent_0 12 rfl rfl)
abbrev cX8_is : ByteArray := prog_7_method_3_code
def yX8_is : MethodName := ⟨RX8, "is", "(I)Z"⟩
def dkwX8_is_0 : List UInt8 := [27, 8, 159, 0, 11, 42, 27, 183, 0, 9, 153, 0, 7, 4, 167, 0, 4, 3, 172]
abbrev dktX8_is_0 : List UInt8 := dkwX8_is_0 ++ []
theorem dksX8_is_0 : cX8_is.data.toList.drop 0 = dktX8_is_0 := by decide +kernel
theorem dX8_is_0 : decode cX8_is 0 = .ok (.iload_n 1, 1) := dk_27 (dk_at dksX8_is_0 0 rfl rfl)
theorem dX8_is_1 : decode cX8_is 1 = .ok (.iconst 5, 1) := dk_8 (dk_at dksX8_is_0 1 rfl rfl)
theorem dX8_is_2 : decode cX8_is 2 = .ok (.if_icmp .eq 11, 3) := dk_159 0 11 (dk_at dksX8_is_0 2 rfl rfl)
theorem dX8_is_5 : decode cX8_is 5 = .ok (.aload_n 0, 1) := dk_42 (dk_at dksX8_is_0 5 rfl rfl)
theorem dX8_is_6 : decode cX8_is 6 = .ok (.iload_n 1, 1) := dk_27 (dk_at dksX8_is_0 6 rfl rfl)
theorem dX8_is_7 : decode cX8_is 7 = .ok (.invokespecial 9, 3) := dk_183 0 9 (dk_at dksX8_is_0 7 rfl rfl)
theorem dX8_is_10 : decode cX8_is 10 = .ok (.ifCond .eq 7, 3) := dk_153 0 7 (dk_at dksX8_is_0 10 rfl rfl)
theorem dX8_is_13 : decode cX8_is 13 = .ok (.iconst 1, 1) := dk_4 (dk_at dksX8_is_0 13 rfl rfl)
theorem dX8_is_14 : decode cX8_is 14 = .ok (.goto 4, 3) := dk_167 0 4 (dk_at dksX8_is_0 14 rfl rfl)
theorem dX8_is_17 : decode cX8_is 17 = .ok (.iconst 0, 1) := dk_3 (dk_at dksX8_is_0 17 rfl rfl)
theorem dX8_is_18 : decode cX8_is 18 = .ok (.ireturn, 1) := dk_172 (dk_at dksX8_is_0 18 rfl rfl)
theorem q100 : (Jvm.Cond.initialized "SandPiano$Ring") ∈ lw_all := lw_g (lw_at lw_m1 19 rfl) rfl
theorem q148 : (Jvm.Cond.fieldLinkNest "SandPiano$Ring" (16 : Nat) "SandPiano" "many" "I" "SandPiano") ∈ lw_tbl := lw_at lw_m1 67 rfl
theorem q530 : (Jvm.Cond.instantiable "SandPiano$Ring" (3 : Nat)) ∈ lw_all := lw_g (lw_at lw_m2 209 rfl) rfl
theorem q532 : (Jvm.Cond.instanceMethod ({ cls := "SandPiano$Ring", name := "<init>", desc := "(III)V" } : Jvm.MethodName)) ∈ lw_all := lw_g (lw_at lw_m2 211 rfl) rfl
theorem q533 : (Jvm.Cond.code ({ cls := "SandPiano$Ring", name := "<init>", desc := "(III)V" } : Jvm.MethodName) prog_7_method_1_code (4 : Nat) (Option.none : Option Jvm.ClassFile.FieldType)) ∈ lw_all := lw_g (lw_at lw_m2 212 rfl) rfl
theorem q534 : (Jvm.Cond.methodLink "SandPiano$Ring" (3 : Nat) ({ cls := "SandPiano$Shell", name := "<init>", desc := "(III)V" } : Jvm.MethodName)) ∈ lw_all := lw_g (lw_at lw_m2 213 rfl) rfl
theorem q535 : (Jvm.Cond.laysFinal "SandPiano$Ring" "SandPiano$Key" "place" "I") ∈ lw_all := lw_g (lw_at lw_m2 214 rfl) rfl
theorem q536 : (Jvm.Cond.laysFinal "SandPiano$Ring" "SandPiano$Key" "strength" "I") ∈ lw_all := lw_g (lw_at lw_m2 215 rfl) rfl
theorem q537 : (Jvm.Cond.laysFinal "SandPiano$Ring" "SandPiano$Key" "pay" "I") ∈ lw_all := lw_g (lw_at lw_m2 216 rfl) rfl
theorem q538 : (Jvm.Cond.superclass "SandPiano$Ring" "SandPiano$Shell") ∈ lw_all := lw_g (lw_at lw_m2 217 rfl) rfl
theorem q570 : (Jvm.Cond.selects "SandPiano$Ring" ({ cls := "SandPiano$Key", name := "kind", desc := "()I" } : Jvm.MethodName) ({ cls := "SandPiano$Ring", name := "kind", desc := "()I" } : Jvm.MethodName)) ∈ lw_all := lw_g (lw_at lw_m3 9 rfl) rfl
theorem q571 : (Jvm.Cond.instanceMethod ({ cls := "SandPiano$Ring", name := "kind", desc := "()I" } : Jvm.MethodName)) ∈ lw_all := lw_g (lw_at lw_m3 10 rfl) rfl
theorem q572 : (Jvm.Cond.code ({ cls := "SandPiano$Ring", name := "kind", desc := "()I" } : Jvm.MethodName) prog_7_method_2_code (1 : Nat) (Option.some Jvm.ClassFile.FieldType.int)) ∈ lw_all := lw_g (lw_at lw_m3 11 rfl) rfl
theorem q584 : (Jvm.Cond.selects "SandPiano$Ring" ({ cls := "SandPiano$Key", name := "strength", desc := "()I" } : Jvm.MethodName) ({ cls := "SandPiano$Key", name := "strength", desc := "()I" } : Jvm.MethodName)) ∈ lw_all := lw_g (lw_at lw_m3 23 rfl) rfl
theorem q594 : (Jvm.Cond.selects "SandPiano$Ring" ({ cls := "SandPiano$Key", name := "pay", desc := "()I" } : Jvm.MethodName) ({ cls := "SandPiano$Key", name := "pay", desc := "()I" } : Jvm.MethodName)) ∈ lw_all := lw_g (lw_at lw_m3 33 rfl) rfl
theorem q604 : (Jvm.Cond.selects "SandPiano$Ring" ({ cls := "SandPiano$Key", name := "plays", desc := "(LSandPiano$Sands;)Z" } : Jvm.MethodName) ({ cls := "SandPiano$Key", name := "plays", desc := "(LSandPiano$Sands;)Z" } : Jvm.MethodName)) ∈ lw_all := lw_g (lw_at lw_m3 43 rfl) rfl
theorem q614 : (Jvm.Cond.selects "SandPiano$Ring" ({ cls := "SandPiano$Key", name := "bears", desc := "()I" } : Jvm.MethodName) ({ cls := "SandPiano$Ring", name := "bears", desc := "()I" } : Jvm.MethodName)) ∈ lw_all := lw_g (lw_at lw_m3 53 rfl) rfl
theorem q615 : (Jvm.Cond.instanceMethod ({ cls := "SandPiano$Ring", name := "bears", desc := "()I" } : Jvm.MethodName)) ∈ lw_all := lw_g (lw_at lw_m3 54 rfl) rfl
theorem q616 : (Jvm.Cond.code ({ cls := "SandPiano$Ring", name := "bears", desc := "()I" } : Jvm.MethodName) prog_7_method_4_code (1 : Nat) (Option.some Jvm.ClassFile.FieldType.int)) ∈ lw_all := lw_g (lw_at lw_m3 55 rfl) rfl
theorem q617 : (Jvm.Cond.constant "SandPiano$Ring" (15 : Nat) (2147483647 : Int32)) ∈ lw_all := lw_g (lw_at lw_m3 56 rfl) rfl
theorem q661 : (Jvm.Cond.selects "SandPiano$Ring" ({ cls := "SandPiano$Shell", name := "above", desc := "(LSandPiano$Sands;)I" } : Jvm.MethodName) ({ cls := "SandPiano$Shell", name := "above", desc := "(LSandPiano$Sands;)I" } : Jvm.MethodName)) ∈ lw_all := lw_g (lw_at lw_m3 100 rfl) rfl
theorem q665 : (Jvm.Cond.selects "SandPiano$Ring" ({ cls := "SandPiano$Shell", name := "place", desc := "()I" } : Jvm.MethodName) ({ cls := "SandPiano$Key", name := "place", desc := "()I" } : Jvm.MethodName)) ∈ lw_all := lw_g (lw_at lw_m3 104 rfl) rfl
theorem q670 : (Jvm.Cond.selects "SandPiano$Ring" ({ cls := "SandPiano$Shell", name := "strength", desc := "()I" } : Jvm.MethodName) ({ cls := "SandPiano$Key", name := "strength", desc := "()I" } : Jvm.MethodName)) ∈ lw_all := lw_g (lw_at lw_m3 109 rfl) rfl
theorem q693 : (Jvm.Cond.instanceMethod ({ cls := "SandPiano$Ring", name := "silent", desc := "(LSandPiano;)I" } : Jvm.MethodName)) ∈ lw_all := lw_g (lw_at lw_m3 132 rfl) rfl
theorem q694 : (Jvm.Cond.selects "SandPiano$Ring" ({ cls := "SandPiano$Ring", name := "silent", desc := "(LSandPiano;)I" } : Jvm.MethodName) ({ cls := "SandPiano$Ring", name := "silent", desc := "(LSandPiano;)I" } : Jvm.MethodName)) ∈ lw_all := lw_g (lw_at lw_m3 133 rfl) rfl
theorem q695 : (Jvm.Cond.code ({ cls := "SandPiano$Ring", name := "silent", desc := "(LSandPiano;)I" } : Jvm.MethodName) prog_7_method_5_code (2 : Nat) (Option.some Jvm.ClassFile.FieldType.int)) ∈ lw_all := lw_g (lw_at lw_m3 134 rfl) rfl
theorem q696 : (Jvm.Cond.methodLinkNest "SandPiano$Ring" (20 : Nat) ({ cls := "SandPiano", name := "playable", desc := "()I" } : Jvm.MethodName) "SandPiano") ∈ lw_tbl := lw_at lw_m3 135 rfl
theorem q704 : (Jvm.Cond.methodLink "SandPiano$Ring" (24 : Nat) ({ cls := "java/lang/Integer", name := "bitCount", desc := "(I)I" } : Jvm.MethodName)) ∈ lw_all := lw_g (lw_at lw_m3 143 rfl) rfl
theorem q762 : (Jvm.Cond.selects "SandPiano$Ring" ({ cls := "SandPiano$Key", name := "throwSand", desc := "(LSandPiano$Sands;I)V" } : Jvm.MethodName) ({ cls := "SandPiano$Shell", name := "throwSand", desc := "(LSandPiano$Sands;I)V" } : Jvm.MethodName)) ∈ lw_all := lw_g (lw_at lw_m3 201 rfl) rfl
theorem q1018 : (Jvm.Cond.selects "SandPiano$Ring" ({ cls := "SandPiano$Key", name := "is", desc := "(I)Z" } : Jvm.MethodName) ({ cls := "SandPiano$Ring", name := "is", desc := "(I)Z" } : Jvm.MethodName)) ∈ lw_all := lw_g (lw_at lw_m4 217 rfl) rfl
theorem q1019 : (Jvm.Cond.instanceMethod ({ cls := "SandPiano$Ring", name := "is", desc := "(I)Z" } : Jvm.MethodName)) ∈ lw_all := lw_g (lw_at lw_m4 218 rfl) rfl
theorem q1020 : (Jvm.Cond.code ({ cls := "SandPiano$Ring", name := "is", desc := "(I)Z" } : Jvm.MethodName) prog_7_method_3_code (2 : Nat) (Option.some Jvm.ClassFile.FieldType.boolean)) ∈ lw_all := lw_g (lw_at lw_m4 219 rfl) rfl
theorem q1021 : (Jvm.Cond.methodLink "SandPiano$Ring" (9 : Nat) ({ cls := "SandPiano$Shell", name := "is", desc := "(I)Z" } : Jvm.MethodName)) ∈ lw_all := lw_g (lw_at lw_m4 220 rfl) rfl
theorem q1549 : (Jvm.Cond.selects "SandPiano$Ring" ({ cls := "SandPiano$Key", name := "right", desc := "(I)I" } : Jvm.MethodName) ({ cls := "SandPiano$Key", name := "right", desc := "(I)I" } : Jvm.MethodName)) ∈ lw_all := lw_g (lw_at lw_m7 28 rfl) rfl
theorem q1555 : (Jvm.Cond.castable "SandPiano$Ring" "SandPiano$Shell") ∈ lw_tbl := lw_at lw_m7 34 rfl
theorem q1560 : (Jvm.Cond.castable "SandPiano$Ring" "SandPiano$Key") ∈ lw_tbl := lw_at lw_m7 39 rfl
theorem in_X8 : ∀ w ∈ wsX80, w ∈ lw_all := lw_in wsX80 [535, 536, 537] (by decide +kernel) (by decide +kernel)

/-! SandPiano$Kept -/
set_option maxRecDepth 100000
def RX9 : String := "SandPiano$Kept"
def TX9 : u_T := fun k => match k with
  | 0 => ("SandPiano$Kept", "sands", "LSandPiano$Sands;", true)
  | 1 => ("SandPiano$Kept", "ahead", "[I", true)
  | 2 => ("SandPiano$Kept", "deedMany", "I", false)
  | _ => ("SandPiano$Kept", "spade", "I", false)
def tyX9 : Nat → FieldType := fun k => match k with
  | 0 => .object "SandPiano$Sands"
  | 1 => .array .int
  | 2 => .int
  | _ => .int
abbrev wsX90 : List Cond := u_ws RX9 TX9 4
theorem nmX9 : ∀ a, a < 4 → ∀ b, b < 4 → a ≠ b → (TX9 a).2.1 ≠ (TX9 b).2.1 := by decide +kernel
theorem tyX9_ok : ∀ k, k < 4 → parseFieldDescriptor (TX9 k).2.2.1 = some (tyX9 k) := by decide +kernel
abbrev cX9_init : ByteArray := prog_5_method_1_code
def yX9_init : MethodName := ⟨RX9, "<init>", "()V"⟩
def dkwX9_init_1 : List UInt8 := [177]
abbrev dktX9_init_1 : List UInt8 := dkwX9_init_1 ++ []
def dkwX9_init_0 : List UInt8 := [42, 183, 0, 3, 42, 187, 0, 9, 89, 183, 0, 11, 181, 0, 12, 42, 17, 2, 28, 188, 10, 181, 0, 18]
abbrev dktX9_init_0 : List UInt8 := dkwX9_init_0 ++ dktX9_init_1
theorem dksX9_init_0 : cX9_init.data.toList.drop 0 = dktX9_init_0 := by decide +kernel
theorem dksX9_init_1 : cX9_init.data.toList.drop 24 = dktX9_init_1 := dk_seg dksX9_init_0 24 rfl rfl
theorem dX9_init_0 : decode cX9_init 0 = .ok (.aload_n 0, 1) := dk_42 (dk_at dksX9_init_0 0 rfl rfl)
theorem dX9_init_1 : decode cX9_init 1 = .ok (.invokespecial 3, 3) := dk_183 0 3 (dk_at dksX9_init_0 1 rfl rfl)
theorem dX9_init_4 : decode cX9_init 4 = .ok (.aload_n 0, 1) := dk_42 (dk_at dksX9_init_0 4 rfl rfl)
theorem dX9_init_5 : decode cX9_init 5 = .ok (.new 9, 3) := dk_187 0 9 (dk_at dksX9_init_0 5 rfl rfl)
theorem dX9_init_8 : decode cX9_init 8 = .ok (.dup, 1) := dk_89 (dk_at dksX9_init_0 8 rfl rfl)
theorem dX9_init_9 : decode cX9_init 9 = .ok (.invokespecial 11, 3) := dk_183 0 11 (dk_at dksX9_init_0 9 rfl rfl)
theorem dX9_init_12 : decode cX9_init 12 = .ok (.putfield 12, 3) := dk_181 0 12 (dk_at dksX9_init_0 12 rfl rfl)
theorem dX9_init_15 : decode cX9_init 15 = .ok (.aload_n 0, 1) := dk_42 (dk_at dksX9_init_0 15 rfl rfl)
theorem dX9_init_16 : decode cX9_init 16 = .ok (.sipush 540, 3) := dk_17 2 28 (dk_at dksX9_init_0 16 rfl rfl)
theorem dX9_init_19 : decode cX9_init 19 = .ok (.newarray .int, 2) := dk_188_10 (dk_at dksX9_init_0 19 rfl rfl)
theorem dX9_init_21 : decode cX9_init 21 = .ok (.putfield 18, 3) := dk_181 0 18 (dk_at dksX9_init_0 21 rfl rfl)
theorem dX9_init_24 : decode cX9_init 24 = .ok (.return_, 1) := dk_177 (dk_at dksX9_init_1 0 rfl rfl)
theorem q104 : (Jvm.Cond.initialized "SandPiano$Kept") ∈ lw_all := lw_g (lw_at lw_m1 23 rfl) rfl
theorem q810 : (Jvm.Cond.instantiable "SandPiano$Kept" (4 : Nat)) ∈ lw_all := lw_g (lw_at lw_m4 9 rfl) rfl
theorem q812 : (Jvm.Cond.instanceMethod ({ cls := "SandPiano$Kept", name := "<init>", desc := "()V" } : Jvm.MethodName)) ∈ lw_all := lw_g (lw_at lw_m4 11 rfl) rfl
theorem q813 : (Jvm.Cond.code ({ cls := "SandPiano$Kept", name := "<init>", desc := "()V" } : Jvm.MethodName) prog_5_method_1_code (1 : Nat) (Option.none : Option Jvm.ClassFile.FieldType)) ∈ lw_all := lw_g (lw_at lw_m4 12 rfl) rfl
theorem q814 : (Jvm.Cond.methodLink "SandPiano$Kept" (3 : Nat) ({ cls := "java/lang/Object", name := "<init>", desc := "()V" } : Jvm.MethodName)) ∈ lw_all := lw_g (lw_at lw_m4 13 rfl) rfl
theorem q815 : (Jvm.Cond.classLink "SandPiano$Kept" (9 : Nat) "SandPiano$Sands") ∈ lw_all := lw_g (lw_at lw_m4 14 rfl) rfl
theorem q816 : (Jvm.Cond.methodLinkNest "SandPiano$Kept" (11 : Nat) ({ cls := "SandPiano$Sands", name := "<init>", desc := "()V" } : Jvm.MethodName) "SandPiano") ∈ lw_tbl := lw_at lw_m4 15 rfl
theorem q817 : (Jvm.Cond.fieldLink "SandPiano$Kept" (12 : Nat) "SandPiano$Kept" "sands" "LSandPiano$Sands;") ∈ lw_all := lw_g (lw_at lw_m4 16 rfl) rfl
theorem q819 : (Jvm.Cond.fieldLink "SandPiano$Kept" (18 : Nat) "SandPiano$Kept" "ahead" "[I") ∈ lw_all := lw_g (lw_at lw_m4 18 rfl) rfl
theorem q823 : (Jvm.Cond.laysFinal "SandPiano$Kept" "SandPiano$Kept" "sands" "LSandPiano$Sands;") ∈ lw_all := lw_g (lw_at lw_m4 22 rfl) rfl
theorem q824 : (Jvm.Cond.soleField "SandPiano$Kept" "sands") ∈ lw_all := lw_g (lw_at lw_m4 23 rfl) rfl
theorem q825 : (Jvm.Cond.laysFinal "SandPiano$Kept" "SandPiano$Kept" "ahead" "[I") ∈ lw_all := lw_g (lw_at lw_m4 24 rfl) rfl
theorem q826 : (Jvm.Cond.soleField "SandPiano$Kept" "ahead") ∈ lw_all := lw_g (lw_at lw_m4 25 rfl) rfl
theorem q827 : (Jvm.Cond.lays "SandPiano$Kept" "SandPiano$Kept" "deedMany" "I") ∈ lw_all := lw_g (lw_at lw_m4 26 rfl) rfl
theorem q828 : (Jvm.Cond.soleField "SandPiano$Kept" "deedMany") ∈ lw_all := lw_g (lw_at lw_m4 27 rfl) rfl
theorem q829 : (Jvm.Cond.lays "SandPiano$Kept" "SandPiano$Kept" "spade" "I") ∈ lw_all := lw_g (lw_at lw_m4 28 rfl) rfl
theorem q830 : (Jvm.Cond.soleField "SandPiano$Kept" "spade") ∈ lw_all := lw_g (lw_at lw_m4 29 rfl) rfl
theorem q831 : (Jvm.Cond.superclass "SandPiano$Kept" "java/lang/Object") ∈ lw_all := lw_g (lw_at lw_m4 30 rfl) rfl
theorem in_X9 : ∀ w ∈ wsX90, w ∈ lw_all := lw_in wsX90 [823, 825, 827, 829] (by decide +kernel) (by decide +kernel)
