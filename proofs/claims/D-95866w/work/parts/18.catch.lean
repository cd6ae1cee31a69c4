/-! MY ROWS 9: the search through the method's own table, its classes cold or warm -/
section GCATCH
variable {p : Program} {l : Launch} {e : Env} {R : Room} {s : State} {m : MethodId} {args : Array Value} {below : List Frame} {meth : Method} {c : Code} {H : Heap} {locs : List Loc} {cells slots : Nat} {Q : State → Prop}
theorem x_go {Q : Handler → Pre} {E : CtlPost} {d : Bool} {acts : List Action} {S : State} {f : JFrame} {a : Addr} {x : ClassFile.ExceptionTableEntry} {t : List ClassFile.ExceptionTableEntry} {cT : ClassId} {cell : Cell} (hx : covers x f.pc = true) (h0 : x.catchType ≠ 0)
    (hl : S.vm.ClassLinks e.platform f.method.cls x.catchType cT) (hcell : S.heap[a]? = some cell) (hobj : ∀ k, cell.vm ≠ .statics k) (hk : ∃ k, S.vm.classes[cell.cls]? = some k) (hc : ∃ k, S.vm.classes[cT]? = some k) :
    wp (findHandler.go f a (x :: t)) Q E e d acts S ↔ if S.vm.assignable cell.cls cT = true then Q (.found x.handlerPc) d acts (S.setVm (S.vm.noted f.method.cls x.catchType (.cls cT))) else wp (findHandler.go f a t) Q E e d acts (S.setVm (S.vm.noted f.method.cls x.catchType (.cls cT))) := by
  simp only [covers] at hx
  obtain ⟨ha, ht⟩ := (resolveClass_links e.toSetting hl).op (op := VmOp.resolveClass f.method.cls x.catchType) rfl
  have hal : S.vm.Alike (S.vm.noted f.method.cls x.catchType (.cls cT)) := (Vm.Alike.refl S.vm).noted _ _ _
  obtain ⟨k1, hk1⟩ := hk
  obtain ⟨k2, hk2⟩ := hc
  obtain ⟨k1', hk1', -⟩ := hal.2.2 _ _ hk1
  obtain ⟨k2', hk2', -⟩ := hal.2.2 _ _ hk2
  have hfit : (S.vm.noted f.method.cls x.catchType (.cls cT)).assignable cell.cls cT = S.vm.assignable cell.cls cT := hal.assignable _ _
  cases hz : S.vm.assignable cell.cls cT <;> rw [hz] at hfit <;> simp [findHandler.go, hx, h0, ha, ht, hcell, hobj, hk1', hk2', hfit, VmOp.dirties, VmOp.acts]
/-- what an entry says at this pc of an exception of class cE: it catches it (hit) or not -/
def x_E (s : State) (args : Array Value) (own : String) (cE : ClassId) (pc : Nat) (hit : Bool) (x : ClassFile.ExceptionTableEntry) : Prop :=
  covers x pc = true ∧ x.catchType ≠ 0 ∧ ∃ (name : String) (cT : ClassId), (Cond.classLink own x.catchType name).before args s = true ∧ s.vm.findClass name = some cT ∧ s.vm.assignable cE cT = hit
theorem x_search {T0 : State} {f : JFrame} {a : Addr} {own : String} {cell : Cell} (hpl : e.platform.magicAccessors = ({} : Platform).magicAccessors) (hown : s.vm.findClass own = some f.method.cls) (hcell : T0.heap[a]? = some cell) (hobj : ∀ k, cell.vm ≠ .statics k) (hk : ∃ k, s.vm.classes[cell.cls]? = some k)
    (x : ClassFile.ExceptionTableEntry) (rest : List ClassFile.ExceptionTableEntry) (hx : x_E s args own cell.cls f.pc true x) : ∀ (pre : List ClassFile.ExceptionTableEntry), (∀ y ∈ pre, covers y f.pc = false ∨ x_E s args own cell.cls f.pc false y) → ∀ vm0 : Vm, s.WarmedH vm0 →
    ∃ vm' : Vm, s.WarmedH vm' ∧ ∀ (Q : Handler → Pre) (E : CtlPost) (d : Bool) (acts : List Action), wp (findHandler.go f a (pre ++ x :: rest)) Q E e d acts (T0.setVm vm0) ↔ Q (.found x.handlerPc) d acts (T0.setVm vm') := by
  have one : ∀ (hit : Bool) (y : ClassFile.ExceptionTableEntry), x_E s args own cell.cls f.pc hit y → ∀ vm0 : Vm, s.WarmedH vm0 → ∃ vm' : Vm, s.WarmedH vm' ∧ ∀ (t : List ClassFile.ExceptionTableEntry) (Q : Handler → Pre) (E : CtlPost) (d : Bool) (acts : List Action),
      wp (findHandler.go f a (y :: t)) Q E e d acts (T0.setVm vm0) ↔ if hit = true then Q (.found y.handlerPc) d acts (T0.setVm vm') else wp (findHandler.go f a t) Q E e d acts (T0.setVm vm') := by
    intro hit y ⟨h1, h2, name, cT, h3, h4, h5⟩ vm0 hW
    obtain ⟨c', hc', hcl⟩ := Cond.classLink_spec hown h3 e.platform hpl
    cases h4.symm.trans hc'
    obtain ⟨dk, _, _, kt, hd, _, _, _, _, hkt, _, hopen⟩ := hcl.here
    have hal := hW.alike
    obtain ⟨kt', hkt', -⟩ := hal.2.2 _ _ hkt
    obtain ⟨kx, hkx⟩ := hk
    obtain ⟨kx', hkx', -⟩ := hal.2.2 _ _ hkx
    refine ⟨vm0.noted f.method.cls y.catchType (.cls cT), hW.noted hd hopen (State.rightAt_cls hcl), fun t Q E d acts => ?_⟩
    have hfit : vm0.assignable cell.cls cT = hit := by rw [hal.assignable]; exact h5
    rw [x_go (S := T0.setVm vm0) h1 h2 (hW.classLinks hcl) hcell hobj ⟨kx', hkx'⟩ ⟨kt', hkt'⟩]
    show (if vm0.assignable cell.cls cT = true then _ else _) ↔ _
    rw [hfit]
    exact Iff.rfl
  intro pre
  induction pre with
  | nil =>
    intro _ vm0 hW
    obtain ⟨vm', hW', h⟩ := one true x hx vm0 hW
    exact ⟨vm', hW', fun Q E d acts => by rw [List.nil_append, h, if_pos rfl]⟩
  | cons y ys ih =>
    intro hs vm0 hW
    rcases hs y (List.mem_cons_self ..) with hy | hy
    · obtain ⟨vm', hW', h⟩ := ih (fun z hz => hs z (List.mem_cons_of_mem _ hz)) vm0 hW
      exact ⟨vm', hW', fun Q E d acts => by rw [List.cons_append, W.findHandler_go_skip hy]; exact h Q E d acts⟩
    · obtain ⟨vm1, hW1, h1⟩ := one false y hy vm0 hW
      obtain ⟨vm', hW', h⟩ := ih (fun z hz => hs z (List.mem_cons_of_mem _ hz)) vm1 hW1
      exact ⟨vm', hW', fun Q E d acts => by rw [List.cons_append, h1, if_neg (by decide)]; exact h Q E d acts⟩
theorem x_sf (u : State) (vm' : Vm) (F G : List Frame) : ((u.setFrames F).setVm vm').setFrames G = (u.setVm vm').setFrames G := by
  have h1 : (u.setFrames F).setVm vm' = (u.setVm vm').setFrames F := rfl
  rw [h1, State.setFrames_setFrames]
/-- from the note '.throwing' to the handler -/
theorem x_caught {T : State} (X : Stand p l e R s m args below meth c T locs cells slots) (a : Addr) {g : JFrame} (hg : g.method = m) {own : String} (hown : s.vm.findClass own = some m.cls) {cell : Cell} (hcell : T.heap[a]? = some cell) (hobj : cell.vm.isStatics = false) (hk : ∃ k, s.vm.classes[cell.cls]? = some k)
    (pre : List ClassFile.ExceptionTableEntry) (x : ClassFile.ExceptionTableEntry) (rest : List ClassFile.ExceptionTableEntry) (hsplit : c.exceptionTable.toList = pre ++ x :: rest) (hx : x_E s args own cell.cls g.pc true x) (hpre : ∀ y ∈ pre, covers y g.pc = false ∨ x_E s args own cell.cls g.pc false y) :
    ∃ vm', Stand p l e R s m args below meth c (T.setVm vm') locs cells slots ∧ ∀ t, Steps p.tables e below ((T.setVm vm').setTop { g with pc := x.handlerPc, stack := [.ref a] }) t → Steps p.tables e below ((T.setTop g).pushFrame (.throwing a)) t := by
  have hpl : e.platform.magicAccessors = ({} : Platform).magicAccessors := by rw [X.admits.platform]
  subst hg
  obtain ⟨vm', hW', hf⟩ := x_search (e := e) (s := s) (args := args) (T0 := (T.setTop g).pushFrame (.throwing a)) (f := g) (a := a) (own := own) (cell := cell) hpl hown hcell (VmData.ne_statics_of hobj) hk x rest hx pre hpre T.vm X.warmed
  refine ⟨vm', X.noted hW', fun t ht => ?_⟩
  have hfind : ∀ (Q : Handler → Pre) (E : CtlPost) (d : Bool) (acts : List Action), wp (findHandler g a) Q E e d acts ((T.setTop g).pushFrame (.throwing a)) ↔ Q (.found x.handlerPc) d acts (((T.setTop g).pushFrame (.throwing a)).setVm vm') := by
    intro Q E d acts
    rw [W.findHandler_eq (s := (T.setTop g).pushFrame (.throwing a)) (meth := meth) (code := c) X.method' X.code, hsplit]
    exact hf Q E d acts
  obtain ⟨hgo, hw⟩ := X.here.throwing a
  refine Steps.head hgo hw ?_
  have hstep : (stepThrowing e ((T.setTop g).pushFrame (.throwing a)) a (.java g :: T.frames.tail)).1 = (((T.setTop g).pushFrame (.throwing a)).setVm vm').setFrames (.java { g with pc := x.handlerPc, stack := [.ref a] } :: T.frames.tail) := by
    simp only [stepThrowing, searchFrame, vmDo]
    generalize hr : Sem.go _ e false [] ((T.setTop g).pushFrame (.throwing a)) = res
    obtain ⟨as, rfl, ha⟩ := Sem.eq_ok_of hr (a := Handler.found x.handlerPc) (s' := ((T.setTop g).pushFrame (.throwing a)).setVm vm') (acts' := []) (by simp [hfind _ _ _ _])
    rfl
  rw [stepThread_throwing (frames_entered X.here.top _), hstep]
  obtain ⟨g₀, hg⟩ := Option.isSome_iff_exists.mp X.here.top
  obtain ⟨r, hr⟩ := State.topJava?_eq_some.mp hg
  have hr' : (T.setVm vm').frames = .java g₀ :: r := hr
  rw [State.setTop_of_frames _ hr'] at ht
  rw [hr, List.tail_cons, State.pushFrame, x_sf, State.setTop_of_frames _ hr, x_sf]
  exact ht
end GCATCH
