/-! MY ROWS 10: what the exceptions ask of the tables, and that it rides -/
section GEX
variable {p : Program} {l : Launch} {e : Env} {R : Room} {s s0 U : State} {m : MethodId} {args a0 a1 : Array Value} {below : List Frame} {meth : Method} {c : Code} {H : Heap} {locs : List Loc} {cells slots : Nat} {Q : State → Prop}
/-- the cells of the statics stand as they stood -/
def x_St (s U : State) : Prop := ∀ (q : Nat) (cell : Cell), s.heap[q]? = some cell → cell.vm.isStatics = true → U.heap[q]? = some cell
theorem x_stat {o n d : String} (hW : s.WarmedH U.vm) (hS : x_St s U) (h : (Cond.laysStatic o n d).before a0 s = true) : ∃ (c : ClassId) (k k' : Class) (i : Nat) (f : Field) (a : Addr) (cell : Cell), U.vm.findClass o = some c ∧ s.fieldFound? o n d = some (c, k, i, f) ∧ U.fieldFound? o n d = some (c, k', i, f) ∧ f.isStatic = true ∧ k.statics = some a ∧ k'.statics = some a ∧ s.heap[a]? = some cell ∧ U.heap[a]? = some cell ∧ cell.vm.isStatics = true ∧ cell.cls = c ∧ f.slot < cell.slots.size ∧ k'.staticTypes[f.slot]? = some f.type := by
  obtain ⟨c, k, i, f, a, cell, h1, h2, h3, h4, h5, h6, h7, h8, h9⟩ := Cond.laysStatic_spec h
  have hal := hW.alike
  obtain ⟨k', hff, he⟩ := State.fieldFound?_setVm (s := s) hal h2
  refine ⟨c, k, k', i, f, a, cell, by rw [hal.findClass]; exact h1, h2, hff, h3, h4, by rw [he]; exact h4, h5, hS a cell h5 h6, h6, h7, h8, by rw [he]; exact h9⟩
theorem x_lays {o n d : String} (hW : s.WarmedH U.vm) (hS : x_St s U) (h : (Cond.laysStatic o n d).before a0 s = true) : (Cond.laysStatic o n d).before a1 U = true := by
  obtain ⟨c, k, k', i, f, a, cell, h1, -, h3, h4, -, h6, -, h8, h9, h10, h11, h12⟩ := x_stat hW hS h
  simp [Cond.before, Cond.holds, Cond.value, h1, h3, h4, h6, h8, h9, h10, h11, h12]
theorem x_isref {o n d : String} (hW : s.WarmedH U.vm) (hS : x_St s U) (h : (Cond.laysStatic o n d).before a0 s = true) (hr : (Cond.isRef (.static o n d)).before a0 s = true) : (Cond.isRef (.static o n d)).before a1 U = true := by
  obtain ⟨c, k, k', i, f, a, cell, h1, h2, h3, h4, h5, h6, h7, h8, h9, h10, h11, h12⟩ := x_stat hW hS h
  have e1 : (Term.static o n d).eval a0 s none [] s = cell.slots[f.slot]? := by simp [Term.eval, State.fieldNamed?, h2, h4, h5, h7, h9]
  have e2 : (Term.static o n d).eval a1 U none [] U = cell.slots[f.slot]? := by simp [Term.eval, State.fieldNamed?, h3, h4, h6, h8, h9]
  simp only [Cond.before, Cond.holds, Cond.value] at hr ⊢
  rw [e2]
  rw [e1] at hr
  exact hr
/-- the words of the exceptions that do not ride by themselves -/
def exD : List Cond := [
  .declares ⟨"java/lang/Throwable", "fillInStackTrace", "()Ljava/lang/Throwable;"⟩,
  .declares ⟨"java/lang/RuntimeException", "<init>", "()V"⟩,
  .declares ⟨"java/lang/RuntimeException", "<init>", "(Ljava/lang/String;)V"⟩,
  .declares ⟨"java/lang/Exception", "<init>", "()V"⟩,
  .declares ⟨"java/lang/Exception", "<init>", "(Ljava/lang/String;)V"⟩,
  .declares ⟨"java/lang/Throwable", "<init>", "()V"⟩,
  .declares ⟨"java/lang/Throwable", "<init>", "(Ljava/lang/String;)V"⟩,
  .declares ⟨"java/lang/IndexOutOfBoundsException", "<init>", "()V"⟩,
  .declares ⟨"java/lang/IndexOutOfBoundsException", "<init>", "(Ljava/lang/String;)V"⟩,
  .castable "java/lang/NegativeArraySizeException" "java/lang/NegativeArraySizeException",
  .castable "java/lang/NullPointerException" "java/lang/NullPointerException",
  .castable "java/lang/RuntimeException" "java/lang/Throwable",
  .castable "java/lang/ArrayIndexOutOfBoundsException" "java/lang/ArrayIndexOutOfBoundsException",
  .castable "java/lang/ArithmeticException" "java/lang/ArithmeticException",
  .castable "java/lang/ClassCastException" "java/lang/ClassCastException",
  .castable "java/lang/ArrayIndexOutOfBoundsException" "java/lang/IndexOutOfBoundsException"]
def exS : List Cond := [.laysStatic "java/lang/Throwable" "UNASSIGNED_STACK" "[Ljava/lang/StackTraceElement;", .laysStatic "java/lang/Throwable" "SUPPRESSED_SENTINEL" "Ljava/util/List;", .isRef (.static "java/lang/Throwable" "UNASSIGNED_STACK" "[Ljava/lang/StackTraceElement;"), .isRef (.static "java/lang/Throwable" "SUPPRESSED_SENTINEL" "Ljava/util/List;")]
/-- pairs of classes the first of which is no subclass of the second -/
def exN : List (String × String) := [("java/lang/ArrayIndexOutOfBoundsException", "java/lang/NullPointerException"), ("java/lang/ArithmeticException", "java/lang/NullPointerException"), ("SandPiano$Shell", "SandPiano$Bass"), ("SandPiano$Crab", "SandPiano$Bass"), ("SandPiano$Ring", "SandPiano$Bass"), ("SandPiano$Bass", "SandPiano$Shell"), ("SandPiano$Crab", "SandPiano$Shell"), ("SandPiano$Drum", "SandPiano$Shell"), ("SandPiano$Bass", "SandPiano$Crab"), ("SandPiano$Shell", "SandPiano$Crab"), ("SandPiano$Drum", "SandPiano$Crab"), ("SandPiano$Ring", "SandPiano$Crab"), ("SandPiano$Bass", "SandPiano$Drum"), ("SandPiano$Shell", "SandPiano$Drum"), ("SandPiano$Crab", "SandPiano$Drum"), ("SandPiano$Ring", "SandPiano$Drum"), ("SandPiano$Bass", "SandPiano$Ring"), ("SandPiano$Shell", "SandPiano$Ring"), ("SandPiano$Crab", "SandPiano$Ring"), ("SandPiano$Drum", "SandPiano$Ring"), ("SandPiano$Key", "SandPiano$Bass"), ("SandPiano$Key", "SandPiano$Shell"), ("SandPiano$Key", "SandPiano$Crab"), ("SandPiano$Key", "SandPiano$Drum"), ("SandPiano$Key", "SandPiano$Ring")]
def x_nc (q : String × String) (U : State) : Prop := ∀ c t : ClassId, U.vm.findClass q.1 = some c → U.vm.findClass q.2 = some t → U.vm.assignable c t = false
def gEx (U : State) : Prop := (∀ w ∈ exD, va_Nw w U) ∧ (∀ q ∈ exN, x_nc q U) ∧ ∃ (s0 : State) (a0 : Array Value), s0.WarmedH U.vm ∧ x_St s0 U ∧ (∀ w ∈ exS, w.before a0 s0 = true) ∧ modulesRight_1 s0 = true
theorem gEx.warm (hW : s.WarmedH U.vm) (hS : x_St s U) (h : gEx s) : gEx U := by
  obtain ⟨h1, h2, s0, a0, h3, h4, h5⟩ := h
  refine ⟨fun w hw => ?_, fun q hq c t e1 e2 => ?_, s0, a0, State.WarmedH.trans h3 hW, fun q cell e1 e2 => hS q cell (h4 q cell e1 e2) e2, h5⟩
  · have hz := h1 w hw
    simp only [exD, List.mem_cons, List.not_mem_nil, or_false] at hw
    rcases hw with rfl | rfl | rfl | rfl | rfl | rfl | rfl | rfl | rfl | rfl | rfl | rfl | rfl | rfl | rfl | rfl
    all_goals first | exact va_Nw.warmD hW hz | exact va_Nw.warmC hW hz
  · rw [hW.alike.findClass] at e1 e2
    rw [hW.alike.assignable]
    exact h2 q hq c t e1 e2
theorem gEx.stat (h : gEx s) : ∀ w ∈ exS, w.before a1 s = true := by
  obtain ⟨-, -, s0, a0, h3, h4, h5, -⟩ := h
  have k1 := h5 (.laysStatic "java/lang/Throwable" "UNASSIGNED_STACK" "[Ljava/lang/StackTraceElement;") (by simp [exS])
  have k2 := h5 (.laysStatic "java/lang/Throwable" "SUPPRESSED_SENTINEL" "Ljava/util/List;") (by simp [exS])
  have k3 := h5 (.isRef (.static "java/lang/Throwable" "UNASSIGNED_STACK" "[Ljava/lang/StackTraceElement;")) (by simp [exS])
  have k4 := h5 (.isRef (.static "java/lang/Throwable" "SUPPRESSED_SENTINEL" "Ljava/util/List;")) (by simp [exS])
  intro w hw
  simp only [exS, List.mem_cons, List.not_mem_nil, or_false] at hw
  rcases hw with rfl | rfl | rfl | rfl
  · exact x_lays h3 h4 k1
  · exact x_lays h3 h4 k2
  · exact x_isref h3 h4 k1 k3
  · exact x_isref h3 h4 k2 k4
theorem gEx.mods (h : gEx s) : modulesRight_1 s = true := by
  obtain ⟨-, -, s0, a0, h3, h4, h5, h6⟩ := h
  have : s.vm.modules = s0.vm.modules := by rw [h3.alike.1]
  unfold modulesRight_1 at h6 ⊢
  rw [this]
  exact h6
theorem gEx.D (h : gEx s) : ∀ w ∈ exD, w.before a1 s = true := fun w hw => by
  have hz := h.1 w hw
  have ht : w.onTables = true := List.all_eq_true.mp (show exD.all Cond.onTables = true by decide +kernel) w hw
  exact va_Nw.use ht hz
theorem gEx.of (h : gEx s) (hts : ∀ w ∈ lw_all, w.before args s = true) {ws : List Cond} (hw : ws.all (fun a => lw_all.contains a || exD.contains a || exS.contains a) = true) : ∀ a ∈ ws, a.before args s = true := by
  intro a ha
  have := List.all_eq_true.mp hw a ha
  simp only [Bool.or_eq_true, List.contains_iff_mem] at this
  rcases this with (h1 | h1) | h1
  · exact hts a h1
  · exact h.D a h1
  · exact h.stat a h1
end GEX
