/-! MY ROWS 17: System.arraycopy that throws -/
section GCOPY
variable {p : Program} {l : Launch} {e : Env} {R : Room} {s : State} {m : MethodId} {args : Array Value} {below : List Frame} {meth : Method} {c : Code} {H : Heap} {locs : List Loc} {cells slots : Nat} {Q : State → Prop}
/-- the note passes a native's frame -/
theorem x_pop {tb : Tables} {base : List Frame} {U t : State} {nf : NFrame} {a : Addr} (h : x_O U base below) (h1 : nf.awaiting = false) (h2 : nf.locked = none) (hrest : Steps tb e below (U.setFrames (.throwing a :: base)) t) : Steps tb e below (U.setFrames (.throwing a :: .native nf :: base)) t := by
  obtain ⟨mid, hmid⟩ := h.2.2.2.2
  refine Steps.head h.go ⟨.throwing a :: .native nf :: mid, by rw [h.fr, hmid]; rfl, by simp, by simp⟩ ?_
  rw [stepThread_throwing h.fr]
  have : (stepThrowing e (U.setFrames (.throwing a :: .native nf :: base)) a (.native nf :: base)).1 = (U.setFrames (.throwing a :: .native nf :: base)).setFrames (.throwing a :: base) := by
    simp only [stepThrowing, h1, h2, leaveIfLocked, vmDo, Bool.false_eq_true, if_false]
    rfl
  rw [this, State.setFrames_setFrames]
  exact hrest
/-- a native method that throws: up to the note -/
theorem x_nat {tb : Tables} {S t : State} {g : JFrame} {c : Code} (h : At S g.method c below) {m : MethodId} {meth : Method} {k : Class} {row : NativeRow} {args : Array Value} (acts : List Action)
    (hk : S.vm.classes[m.cls]? = some k) (hx : k.methods[m.idx]? = some meth) (hboot : k.loader = none) (hnat : meth.isNative = true) (hc : meth.code = none) (hl : meth.locks = false)
    (hrow : NativeRow.find? tb.natives k.name meth.name meth.desc = some row)
    (hroom : e.platform.stackFull (((S.setTop g).threads[(S.setTop g).cur]?).getD { frames := [] }) (S.setTop g).frames (nativeFrameWords k.name meth.name (operandWords args.toList)) = false)
    {cls : String} {msg : Option String}
    (hw : ∀ E : CtlPost, (∀ acts', E (.throwNew cls msg) acts' ((S.setTop g).pushFrame (.native { method := m, args := seenByNative meth args, locked := none }))) →
      wp (row.sem (seenByNative meth args)) (fun _ _ _ _ => False) E e false [] ((S.setTop g).pushFrame (.native { method := m, args := seenByNative meth args, locked := none })))
    (hrest : Steps tb e below (((S.setTop g).pushFrame (.native { method := m, args := seenByNative meth args, locked := none })).pushFrame (.throwNew cls msg none)) t) : Steps tb e below (doInvoke e (S.setTop g) acts m args).1 t := by
  have hm : (S.setTop g).vm.method? m = some meth := by
    show S.vm.method? m = some meth
    simp [Vm.method?, hk, hx]
  have hroom' : e.platform.stackFull (((S.setTop g).threads[(S.setTop g).cur]?).getD { frames := [] }) (S.setTop g).frames (nativeFrameWords ((((S.setTop g).vm.classes[m.cls]?).map (·.name)).getD "") meth.name (operandWords args.toList)) = false := by
    have : (((S.setTop g).vm.classes[m.cls]?).map (·.name)).getD "" = k.name := by
      show ((S.vm.classes[m.cls]?).map (·.name)).getD "" = k.name
      simp [hk]
    rw [this]; exact hroom
  rw [(Fast.doInvoke_native (s := S.setTop g) (e := e) (acts := acts) (args := args) hm hnat hc hl hroom').1]
  have hfe := frames_entered (g := g) h.top (.native { method := m, args := seenByNative meth args, locked := none })
  obtain ⟨mid, hmid⟩ := h.above
  refine Steps.head ⟨h.running, by simpa using h.runnable, by simpa using h.alone⟩
    ⟨.native { method := m, args := seenByNative meth args, locked := none } :: .java g :: mid, by rw [hfe, hmid]; rfl, by simp, by simp⟩ ?_
  rw [stepThread_native (f := { method := m, args := seenByNative meth args, locked := none }) (k := k) (x := meth) (row := row) hfe hk hx hboot hrow rfl]
  have hw1 : wpRun (row.sem (seenByNative meth args)) (fun _ _ _ => False) (fun x s₁ _ => x = .throwNew cls msg ∧ s₁ = (S.setTop g).pushFrame (.native { method := m, args := seenByNative meth args, locked := none })) e
      ((S.setTop g).pushFrame (.native { method := m, args := seenByNative meth args, locked := none })) := hw _ (fun _ => ⟨rfl, rfl⟩)
  have hw2 := (wpRun_iff_run _ _ _ _ _).mp hw1
  cases hr : (row.sem (seenByNative meth args)).run e ((S.setTop g).pushFrame (.native { method := m, args := seenByNative meth args, locked := none })) with
  | ok v s₁ acts₁ => rw [hr] at hw2; exact hw2.elim
  | ctl x s₁ acts₁ =>
    rw [hr] at hw2
    cases x <;> first
      | exact hw2.elim
      | (obtain ⟨h1, h2⟩ := hw2; cases h1; subst h2; exact hrest)
      | (obtain ⟨h1, -⟩ := hw2; cases h1)
theorem x_acN1 {Q : Option Value → Pre} {E : CtlPost} {d : Bool} {acts : List Action} {S : State} (sp dp n : Int32) (dst : Value) (hE : E (.throwNew "java/lang/NullPointerException" none) acts S) : wp (Native.java_lang_System.arraycopy.sem #[.null, .int sp, dst, .int dp, .int n]) Q E e d acts S := by
  show wp (do Jvm.mark "nat.java_lang_System.arraycopy/null"; Jvm.throwNew "java/lang/NullPointerException") Q E e d acts S
  simp only [wp_bind', W.mark, W.throwNew]
  exact hE
theorem x_acN2 {Q : Option Value → Pre} {E : CtlPost} {d : Bool} {acts : List Action} {S : State} (src : Addr) (sp dp n : Int32) (hE : E (.throwNew "java/lang/NullPointerException" none) acts S) : wp (Native.java_lang_System.arraycopy.sem #[.ref src, .int sp, .null, .int dp, .int n]) Q E e d acts S := by
  show wp (do Jvm.mark "nat.java_lang_System.arraycopy/null"; Jvm.throwNew "java/lang/NullPointerException") Q E e d acts S
  simp only [wp_bind', W.mark, W.throwNew]
  exact hE
/-- what is said of a copy out of range, of two int arrays -/
def x_arr (n : Nat) : String := toString (Native.java_lang_System.arraycopy.kindName .int) ++ toString "[" ++ toString n ++ toString "]"
def x_fault (sn dn : Nat) (sp dp n : Int32) : Option String :=
  if sp < 0 then some (toString "source index " ++ toString sp ++ toString " out of bounds for " ++ toString (x_arr sn))
  else if dp < 0 then some (toString "destination index " ++ toString dp ++ toString " out of bounds for " ++ toString (x_arr dn))
  else if n < 0 then some (toString "length " ++ toString n ++ toString " is negative")
  else if sp.toInt + n.toInt > sn then some (toString "last source index " ++ toString (sp.toInt + n.toInt) ++ toString " out of bounds for " ++ toString (x_arr sn))
  else if dp.toInt + n.toInt > dn then some (toString "last destination index " ++ toString (dp.toInt + n.toInt) ++ toString " out of bounds for " ++ toString (x_arr dn))
  else none
theorem x_acB {Q : Option Value → Pre} {E : CtlPost} {d : Bool} {acts : List Action} {S : State} {src dst : Addr} {sp dp n : Int32} {cs cd : Cell} {ks kd : Class} {sComp dComp : ClassId} {what : String}
    (hs : S.heap[src]? = some cs) (hd : S.heap[dst]? = some cd) (hsobj : ∀ k, cs.vm ≠ .statics k) (hdobj : ∀ k, cd.vm ≠ .statics k)
    (hks : S.vm.classes[cs.cls]? = some ks) (hkd : S.vm.classes[cd.cls]? = some kd) (hsk : ks.kind = .array sComp .int) (hdk : kd.kind = .array dComp .int)
    (hf : x_fault cs.slots.size cd.slots.size sp dp n = some what) (hE : E (.throwNew "java/lang/ArrayIndexOutOfBoundsException" (some ("arraycopy: " ++ what))) acts S) :
    wp (Native.java_lang_System.arraycopy.sem #[.ref src, .int sp, .ref dst, .int dp, .int n]) Q E e d acts S := by
  rw [Native.java_lang_System.arraycopy.sem_refs]
  unfold Native.java_lang_System.arraycopy.behind
  simp only [wp_bind', W.classOf, W.theClass, hs, hd, hks, hkd, Option.some.injEq, exists_eq_left', hsk, hdk]
  refine ⟨hsobj, hdobj, ?_⟩
  simp only [wp_bind', W.sizeOf, hs, hd, Option.some.injEq, exists_eq_left', bne_self_eq_false, Bool.not_false, Bool.true_and, Bool.or_false, Bool.false_or, Bool.false_eq_true, if_false]
  unfold x_fault at hf
  by_cases h1 : sp < 0
  · rw [if_pos h1] at hf
    cases hf
    simp only [h1, if_true, wp_bind', W.mark, W.throwNew]
    exact hE
  rw [if_neg h1] at hf
  by_cases h2 : dp < 0
  · rw [if_pos h2] at hf
    cases hf
    simp only [h1, h2, if_true, if_false, wp_bind', W.mark, W.throwNew]
    exact hE
  rw [if_neg h2] at hf
  by_cases h3 : n < 0
  · rw [if_pos h3] at hf
    cases hf
    simp only [h1, h2, h3, if_true, if_false, wp_bind', W.mark, W.throwNew]
    exact hE
  rw [if_neg h3] at hf
  by_cases h4 : sp.toInt + n.toInt > cs.slots.size
  · rw [if_pos h4] at hf
    cases hf
    simp only [h1, h2, h3, h4, if_true, if_false, wp_bind', W.mark, W.throwNew]
    exact hE
  rw [if_neg h4] at hf
  by_cases h5 : dp.toInt + n.toInt > cd.slots.size
  · rw [if_pos h5] at hf
    cases hf
    simp only [h1, h2, h3, h4, h5, if_true, if_false, wp_bind', W.mark, W.throwNew]
    exact hE
  rw [if_neg h5] at hf
  cases hf
theorem x_arrLen {n : Nat} (h : n < 2 ^ 31) : (x_arr n).toList.length ≤ 15 := by
  unfold x_arr
  simp only [String.toList_append, List.length_append]
  have a1 : (toString (Native.java_lang_System.arraycopy.kindName .int)).toList.length = 3 := by decide
  have a2 : (toString "[").toList.length = 1 := by decide
  have a3 : (toString "]").toList.length = 1 := by decide
  have a4 := nat_print (n := n) (by omega)
  omega
theorem x_intLen {z : Int} (h0 : 0 ≤ z) (h1 : z < 10 ^ 10) : (toString z).toList.length ≤ 10 := by
  obtain ⟨k, rfl⟩ := Int.eq_ofNat_of_zero_le h0
  exact nat_print (n := k) (by omega)
theorem x_faultLen {sn dn : Nat} {sp dp n : Int32} {what : String} (hs : sn < 2 ^ 31) (hd : dn < 2 ^ 31) (h : x_fault sn dn sp dp n = some what) : (toString "arraycopy: " ++ what).toList.length ≤ 90 := by
  have a1 := x_arrLen hs
  have a2 := x_arrLen hd
  have a3 := int32_print sp
  have a4 := int32_print dp
  have a5 := int32_print n
  have b0 : (toString "arraycopy: ").toList.length = 11 := by decide
  have b1 : (toString "source index ").toList.length = 13 := by decide
  have b2 : (toString "destination index ").toList.length = 18 := by decide
  have b3 : (toString "length ").toList.length = 7 := by decide
  have b4 : (toString " is negative").toList.length = 12 := by decide
  have b5 : (toString "last source index ").toList.length = 18 := by decide
  have b6 : (toString "last destination index ").toList.length = 23 := by decide
  have b7 : (toString " out of bounds for ").toList.length = 19 := by decide
  have c1 : (toString (x_arr sn)).toList.length ≤ 15 := a1
  have c2 : (toString (x_arr dn)).toList.length ≤ 15 := a2
  have l1 := Int32.toInt_lt sp
  have l2 := Int32.toInt_lt dp
  have l3 := Int32.toInt_lt n
  unfold x_fault at h
  split at h
  · cases h; simp only [String.toList_append, List.length_append]; omega
  split at h
  · cases h; simp only [String.toList_append, List.length_append]; omega
  split at h
  · cases h; simp only [String.toList_append, List.length_append]; omega
  rename_i h1 h2 h3
  have g1 : 0 ≤ sp.toInt := by have := Int32.le_iff_toInt_le.mp (Int32.not_lt.mp h1); simpa using this
  have g2 : 0 ≤ dp.toInt := by have := Int32.le_iff_toInt_le.mp (Int32.not_lt.mp h2); simpa using this
  have g3 : 0 ≤ n.toInt := by have := Int32.le_iff_toInt_le.mp (Int32.not_lt.mp h3); simpa using this
  split at h
  · cases h
    have := x_intLen (z := sp.toInt + n.toInt) (by omega) (by omega)
    simp only [String.toList_append, List.length_append]; omega
  split at h
  · cases h
    have := x_intLen (z := dp.toInt + n.toInt) (by omega) (by omega)
    simp only [String.toList_append, List.length_append]; omega
  cases h
theorem x_faultMod {what : String} : ((toString "arraycopy: " ++ what) == notModelled) = false := by
  rw [beq_eq_false_iff_ne]
  intro h
  have h2 := congrArg String.toList h
  have h4 : notModelled.toList = '\u0000' :: " a message that is not modelled".toList := by decide
  rw [h4, String.toList_append] at h2
  have h6 : (toString "arraycopy: ").toList = 'a' :: "rraycopy: ".toList := by decide
  rw [h6] at h2
  simp at h2
theorem x_copyNote {T : State} (X : Stand p l e R s m args below meth c T locs cells slots) (hexec : p.tables.exec = Jvm.exec) {own : String} {index pc : Nat} {ls : Array Slot} {rest : List Value} (hown : s.vm.findClass own = some m.cls)
    (hlink : (Cond.methodLink own index arraycopyName).before args s = true) (hnat : (Cond.native arraycopyName).before args s = true) (hstat : (Cond.static arraycopyName).before args s = true) (hinit : (Cond.initialized "java/lang/System").before args s = true)
    {v1 v2 : Value} {sp dp n : Int32} (hv1 : v1 = .null ∨ ∃ a, v1 = .ref a) (hv2 : v2 = .null ∨ ∃ a, v2 = .ref a) {cls : String} {msg : Option String}
    (hsem : ∀ S : State, S.heap = T.heap → s.vm.Alike S.vm → ∀ E : CtlPost, (∀ acts', E (.throwNew cls msg) acts' S) → wp (Native.java_lang_System.arraycopy.sem #[v1, .int sp, v2, .int dp, .int n]) (fun _ _ _ _ => False) E e false [] S)
    (hsize : ls.size = c.maxLocals) (hdg : decode c.code pc = .ok (.invokestatic index, 3)) (hframes : 1 ≤ R.frames) (hlocals : (rest.map fun v => v.category).sum + (nativeFrameWords "java/lang/System" "arraycopy" 5 + 11) ≤ R.locals) :
    ∃ (vm' : Vm) (nf : NFrame), nf.words = 0 ∧ nf.awaiting = false ∧ nf.locked = none ∧ Stand p l e R s m args below meth c (T.setVm vm') locs cells slots ∧
      ∀ t, Steps p.tables e below ((T.setVm vm').setFrames (.throwNew cls msg none :: ([.native nf] ++ .java (F0 m pc ls rest) :: below))) t → Steps p.tables e below (T.setTop (F0 m pc ls (.int n :: .int dp :: v2 :: .int sp :: v1 :: rest))) t := by
  obtain ⟨r, kS, methS, hnS, hmS, hkS, N⟩ := NativeOf.of_static hnat hstat (ps := [.object "java/lang/Object", .int, .object "java/lang/Object", .int, .int]) (ret := none) (by decide +kernel)
  have hinitS : kS.init = .initialized := Cond.initialized_spec (findClass_of_methodNamed hnS) hkS hinit
  obtain ⟨vm', X', step⟩ := X.invokestatic hexec hown hlink hnS hmS N.static hkS hinitS (by decide) (g := F0 m pc ls (.int n :: .int dp :: v2 :: .int sp :: v1 :: rest)) rfl (argsL := [v1, .int sp, v2, .int dp, .int n]) (rest := rest) (by rw [N.sig]; rfl) rfl hdg
  have hA' : s.vm.Alike vm' := X'.warmed.alike
  obtain ⟨kS', N'⟩ := N.alike hA'
  have hseen : seenByNative methS #[v1, .int sp, v2, .int dp, .int n] = #[v1, .int sp, v2, .int dp, .int n] := by
    rcases hv1 with rfl | ⟨a, rfl⟩ <;> rcases hv2 with rfl | ⟨b, rfl⟩ <;> simp [seenByNative, N'.static, N'.sig, narrow]
  have hop : operandWords [v1, .int sp, v2, .int dp, .int n] = 5 := by
    rcases hv1 with rfl | ⟨a, rfl⟩ <;> rcases hv2 with rfl | ⟨b, rfl⟩ <;> rfl
  refine ⟨vm', { method := r, args := seenByNative methS #[v1, .int sp, v2, .int dp, .int n], locked := none }, rfl, rfl, rfl, X', fun t ht => step t fun acts => ?_⟩
  have hroom := X'.notFull (g := F0 m pc ls rest) hsize (vars := nativeFrameWords "java/lang/System" "arraycopy" 5) hframes (by show 2 * 0 + (rest.map fun v => v.category).sum + _ ≤ _; omega)
  refine x_nat (g := F0 m pc ls rest) X'.here acts N'.cls N'.meth N'.boot N'.native N'.noCode N'.noLock (row := arraycopyRow) (cls := cls) (msg := msg) (by rw [N'.className, N'.name, N'.desc]; exact arraycopy_row p) (by rw [N'.className, N'.name]; show _ = false; rw [show operandWords (#[v1, .int sp, v2, .int dp, .int n] : Array Value).toList = 5 from hop]; exact hroom) ?_ ?_
  · intro E hE
    rw [hseen] at hE ⊢
    rw [arraycopyRow_sem]
    exact hsem (((T.setVm vm').setTop (F0 m pc ls rest)).pushFrame (.native { method := r, args := #[v1, .int sp, v2, .int dp, .int n], locked := none })) rfl hA' E hE
  · have e1 : (((T.setVm vm').setTop (F0 m pc ls rest)).pushFrame (.native { method := r, args := seenByNative methS #[v1, .int sp, v2, .int dp, .int n], locked := none })).pushFrame (.throwNew cls msg none) = (T.setVm vm').setFrames (.throwNew cls msg none :: ([.native { method := r, args := seenByNative methS #[v1, .int sp, v2, .int dp, .int n], locked := none }] ++ .java (F0 m pc ls rest) :: below)) := by
      rw [x_push X', State.pushFrame, State.frames_setFrames _ (State.cur_lt_of_frames X'.frames_eq.choose_spec), State.setFrames_setFrames]
      rfl
    rw [e1]
    exact ht
variable {cc : ByteArray} {pc nL hN hO : Nat} {ls : Array Slot} {rest : List Value} {own : String} {Γ : gG} {A : Nat → Prop} {nz : Nat} {ad : Nat → Nat} {μ : gM} {r : Option Value × gM} {hh : List (Nat × Nat × Nat × Nat)}
def tcp (μ : gM) (q : Option Nat) (sp : Int32) (q' : Option Nat) (dp n : Int32) (kN kO : gR) (kt : gM → gR) : gR := match q, q' with
  | some i, some j => match garI μ 0 i, garI μ 0 j with
    | some a, some b => if 2 ^ 31 ≤ a.1 ∨ 2 ^ 31 ≤ b.1 then none else match x_fault a.1 b.1 sp dp n with
      | some _ => kO
      | none => gcp μ i sp j dp n kt
    | _, _ => none
  | _, _ => kN
/-- the throw over a native's frame, caught -/
theorem x_catN (X : gX p m c cc nL s args own Γ A) (Y : gY l s A c hh) (h : gWd Γ A nz ad μ s.heap H locs) {T : State} (hT : T.heap = H) (S : Stand p l e R s m args below meth c T locs cells slots) {nf : NFrame} (hw : nf.words = 0) (ha : nf.awaiting = false) (hlk : nf.locked = none) (hr : x_R R ls nL rest) (hc : cells + 1 ≤ R.cells ∧ slots + 8 ≤ R.slots)
    (hhit : x_hit own "java/lang/NullPointerException" pc hN hh) (kk : xW p l e R s m args below meth c Q Γ A nz ad μ hN ls (cells + 1) (slots + 8)) :
    ∃ t, Steps p.tables e below (T.setFrames (.throwNew "java/lang/NullPointerException" none none :: ([.native nf] ++ .java (F0 m pc ls rest) :: below))) t ∧ Q t := by
  subst hT
  obtain ⟨r1, r2, r3, r4⟩ := hr
  have htr : e.platform.stackTraces = false := by rw [S.admits.platform]; exact Y.1
  obtain ⟨U, locs', ce, S', hl, hs, hk, hce, hcl, hv, st⟩ := x_npe S X.hx htr (n := 8) (fun a ha => Y.2.1.at X.hts a (List.mem_append_right _ ha)) (fun x hx cell hcell => Y.2.2.1 _ cell (h.2.2.1.2.2 x hx) hcell)
    (g := F0 m pc ls rest) rfl (r1.trans X.hml.symm) (x_L1 hw) (by omega) (by show 2 * 0 + (rest.map fun v => v.category).sum + 10240 ≤ _; omega) hc.1 (by omega)
  obtain ⟨vm', S2, st2⟩ := x_find (ls := ls) (rest := rest) (pc := pc) X Y S' T.heap.size hce hv hcl hhit
  obtain ⟨t, h1, h2⟩ := kk T.heap.size U.heap locs' (h.more X.2.2 hs hk hl) (U.setVm vm') rfl S2
  refine ⟨t, st _ (x_pop (base := .java (F0 m pc ls rest) :: below) ⟨S'.here.running, S'.here.runnable, S'.here.alone, State.cur_lt_of_frames S'.frames_eq.choose_spec, [.java (F0 m pc ls rest)], rfl⟩ ha hlk ?_), h2⟩
  have h3 := st2 t h1
  rw [x_push S'] at h3
  exact h3
theorem x_catM (X : gX p m c cc nL s args own Γ A) (Y : gY l s A c hh) (h : gWd Γ A nz ad μ s.heap H locs) {T : State} (hT : T.heap = H) (S : Stand p l e R s m args below meth c T locs cells slots) {nf : NFrame} (hw : nf.words = 0) (ha : nf.awaiting = false) (hlk : nf.locked = none) {text : String}
    (htext : (text == notModelled) = false) (hB : text.toList.length ≤ 90) (hr : x_R R ls nL rest) (hc : cells + 3 ≤ R.cells ∧ slots + (360 + 10) ≤ R.slots)
    (hhit : x_hit own "java/lang/ArrayIndexOutOfBoundsException" pc hO hh) (kk : xW p l e R s m args below meth c Q Γ A nz ad μ hO ls (cells + 3) (slots + (360 + 10))) :
    ∃ t, Steps p.tables e below (T.setFrames (.throwNew "java/lang/ArrayIndexOutOfBoundsException" (some text) none :: ([.native nf] ++ .java (F0 m pc ls rest) :: below))) t ∧ Q t := by
  subst hT
  obtain ⟨r1, r2, r3, r4⟩ := hr
  have hb1 := stringBytes_size_le (stringToUtf16 text)
  have hb2 := utf16_size_le text
  have hlim : e.platform.arrayLengthLimit = ({} : Platform).arrayLengthLimit := by rw [S.admits.platform]
  have hmax : e.platform.maxHeapBytes = ({} : Platform).maxHeapBytes := by rw [S.admits.platform]
  have htr : e.platform.stackTraces = false := by rw [S.admits.platform]; exact Y.1
  obtain ⟨U, locs', ce, S', hl, hs, hk, hce, hcl, hv, st⟩ := x_msg S X.hx htr (cls := "java/lang/ArrayIndexOutOfBoundsException") (names := ["java/lang/IndexOutOfBoundsException", "java/lang/RuntimeException", "java/lang/Exception"]) (text := text) (by decide +kernel) (by decide +kernel) (by decide +kernel) (by decide +kernel) (fun a ha => Y.2.1.at X.hts a (x_atIdx a ha)) (fun x hx cell hcell => Y.2.2.1 _ cell (h.2.2.1.2.2 x hx) hcell) htext
    (by rw [hlim]; have : (100000 : Nat) ≤ ({} : Platform).arrayLengthLimit := by decide
        omega) (by rw [hmax]; have : (100000 : Nat) ≤ ({} : Platform).maxHeapBytes := by decide
                   show ¬ _ * 1 > _
                   omega) (g := F0 m pc ls rest) rfl (r1.trans X.hml.symm) (x_L1 hw) (by show 3 + 5 < _; omega) (by show 2 * 0 + (rest.map fun v => v.category).sum + 10240 ≤ _; omega) (by decide) hc.1 (by omega)
  obtain ⟨vm', S2, st2⟩ := x_find (ls := ls) (rest := rest) (pc := pc) X Y S' (T.heap.size + 2) hce hv hcl hhit
  obtain ⟨t, h1, h2⟩ := kk (T.heap.size + 2) U.heap locs' (h.more X.2.2 hs hk hl) (U.setVm vm') rfl (stand_widen S2 (Nat.le_refl _) (by omega))
  refine ⟨t, st _ (x_pop (base := .java (F0 m pc ls rest) :: below) ⟨S'.here.running, S'.here.runnable, S'.here.alone, State.cur_lt_of_frames S'.frames_eq.choose_spec, [.java (F0 m pc ls rest)], rfl⟩ ha hlk ?_), h2⟩
  have h3 := st2 t h1
  rw [x_push S'] at h3
  exact h3
theorem r_tcopy (X : gX p m c cc nL s args own Γ A) (Y : gY l s A c hh) (h : gWd Γ A nz ad μ s.heap H locs) {q q' : Option Nat} {idx : Nat} {sp dp n : Int32} {kN kO : gR} {kt : gM → gR} (hr : x_R R ls nL rest) (hc : cells + 3 ≤ R.cells ∧ slots + (360 + 10) ≤ R.slots)
    (hiN : x_hit own "java/lang/NullPointerException" pc hN hh) (hiO : x_hit own "java/lang/ArrayIndexOutOfBoundsException" pc hO hh) (hl : Cond.methodLink own idx arraycopyName ∈ lw_all) (d : decode cc pc = .ok (.invokestatic idx, 3)) (hf : tcp μ q sp q' dp n kN kO kt = some r)
    (kkN : kN = some r → xW p l e R s m args below meth c Q Γ A nz ad μ hN ls (cells + 1) (slots + 8)) (kkO : kO = some r → xW p l e R s m args below meth c Q Γ A nz ad μ hO ls (cells + 3) (slots + (360 + 10)))
    (kk : ∀ (μ1 : gM) (H1 : Heap) (locs1 : List Loc), kt μ1 = some r → gWd Γ A nz ad μ1 s.heap H1 locs1 → W p l e R s m args below meth c H1 locs1 cells slots Q (F0 m (pc + 3) ls rest)) : W p l e R s m args below meth c H locs cells slots Q (F0 m pc ls (.int n :: .int dp :: va_rf (q'.map ad) :: .int sp :: va_rf (q.map ad) :: rest)) := by
  have hlo : (rest.map fun v => v.category).sum + (nativeFrameWords "java/lang/System" "arraycopy" 5 + 11) ≤ R.locals := by
    have h1 : nativeFrameWords "java/lang/System" "arraycopy" 5 + 11 ≤ 1000 := by decide +kernel
    have h2 := hr.2.1
    have h3 := hr.2.2.2
    omega
  have hnull : (q = none ∨ q' = none) → kN = some r → W p l e R s m args below meth c H locs cells slots Q (F0 m pc ls (.int n :: .int dp :: va_rf (q'.map ad) :: .int sp :: va_rf (q.map ad) :: rest)) := by
    intro hq hk T hT S
    obtain ⟨vm', nf, w1, w2, w3, S', st⟩ := x_copyNote S X.hx (pc := pc) (ls := ls) (rest := rest) X.hown (X.hts _ hl) (X.hts _ q419) (X.hts _ q418) (X.hts _ q93) (v1 := va_rf (q.map ad)) (v2 := va_rf (q'.map ad)) (sp := sp) (dp := dp) (n := n) (by cases q <;> simp [va_rf]) (by cases q' <;> simp [va_rf]) (cls := "java/lang/NullPointerException") (msg := none)
      (fun S _ _ E hE => by
        cases q with
        | none => exact x_acN1 sp dp n _ (hE _)
        | some i =>
          cases q' with
          | none => exact x_acN2 _ sp dp n (hE _)
          | some j => rcases hq with hq | hq <;> cases hq) (hr.1.trans X.hml.symm) (by rw [X.hb]; exact d) (by have := hr.2.2.1; omega) hlo
    obtain ⟨t, h1, h2⟩ := x_catN X Y h (T := T.setVm vm') hT S' w1 w2 w3 hr ⟨by omega, by omega⟩ hiN (kkN hk)
    exact ⟨t, st t h1, h2⟩
  cases q with
  | none => exact hnull (Or.inl rfl) (by cases q' <;> exact hf)
  | some i =>
    cases q' with
    | none => exact hnull (Or.inr rfl) hf
    | some j =>
      simp only [tcp] at hf
      cases hg : garI μ 0 i with
      | none => rw [hg] at hf; cases hf
      | some a =>
        cases hg' : garI μ 0 j with
        | none => rw [hg, hg'] at hf; cases hf
        | some b =>
          rw [hg, hg'] at hf
          dsimp only at hf
          split at hf
          · cases hf
          rename_i hn
          cases hx : x_fault a.1 b.1 sp dp n with
          | none =>
            rw [hx] at hf
            exact r_copy X h (hr.1) hl (by have := hr.2.2.1; omega) hlo d hf kk
          | some what =>
            rw [hx] at hf
            have hfl := x_faultLen (by omega) (by omega) hx
            obtain ⟨q0, hq0⟩ := h.at (garI_some hg)
            obtain ⟨q1, hq1⟩ := h.at (garI_some hg')
            have hP0 := h.P q0 _ hq0
            have hP1 := h.P q1 _ hq1
            obtain ⟨-, k0, hk1, comp, hk2⟩ := (X.K.2 0 _ rfl).1 a.1 (fun j => .int (a.2 j))
            intro T hT S
            obtain ⟨vm', nf, w1, w2, w3, S', st⟩ := x_copyNote S X.hx (pc := pc) (ls := ls) (rest := rest) X.hown (X.hts _ hl) (X.hts _ q419) (X.hts _ q418) (X.hts _ q93) (v1 := .ref (ad i)) (v2 := .ref (ad j)) (sp := sp) (dp := dp) (n := n) (Or.inr ⟨_, rfl⟩) (Or.inr ⟨_, rfl⟩) (cls := "java/lang/ArrayIndexOutOfBoundsException") (msg := some (toString "arraycopy: " ++ what))
              (fun S hS hal E hE => by
                obtain ⟨k', hk', he'⟩ := hal.2.2 _ _ hk1
                exact x_acB (cs := arrV (Γ.2 0) a.1 (fun j => .int (a.2 j))) (cd := arrV (Γ.2 0) b.1 (fun j => .int (b.2 j))) (ks := k') (kd := k') (sComp := comp) (dComp := comp) (by rw [hS, hT]; exact hP0) (by rw [hS, hT]; exact hP1) (fun k h9 => by cases h9) (fun k h9 => by cases h9) hk' hk' (by rw [he']; exact hk2) (by rw [he']; exact hk2) (by rw [arrV_size, arrV_size]; exact hx) (hE _)) (hr.1.trans X.hml.symm) (by rw [X.hb]; exact d) (by have := hr.2.2.1; omega) hlo
            obtain ⟨t, h1, h2⟩ := x_catM X Y h (T := T.setVm vm') hT S' w1 w2 w3 x_faultMod hfl hr hc hiO (kkO hf)
            exact ⟨t, st t h1, h2⟩
end GCOPY
