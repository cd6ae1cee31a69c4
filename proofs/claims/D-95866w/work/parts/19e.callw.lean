/-! MY ROWS 14: methods with handlers: their start, their calls -/
section GCALLW
variable {p : Program} {l : Launch} {e : Env} {R : Room} {s : State} {m : MethodId} {args : Array Value} {below : List Frame} {meth : Method} {c : Code} {H : Heap} {locs : List Loc} {cells slots : Nat} {Q : State → Prop}
variable {cc : ByteArray} {pc nL : Nat} {ls : Array Slot} {rest st0 : List Value} {own : String} {Γ : gG} {A : Nat → Prop} {nz : Nat} {ad : Nat → Nat} {μ : gM} {r : Option Value × gM} {hh : List (Nat × Nat × Nat × Nat)}
variable {y : MethodName} {bytes : ByteArray} {maxL n index i ci N mc ms : Nat} {ret : Option FieldType} {ws : List Cond} {rm : Room} {As : List Value} {C : String} {T : u_T} {o : gR}
def gZ (l : Launch) (s : State) (A : Nat → Prop) : Prop := l.stackTraces = false ∧ gEx s ∧ ∀ (q : Nat) (cell : Cell), A q → s.heap[q]? = some cell → cell.vm.isStatics = false
theorem gY.Z (Y : gY l s A c hh) : gZ l s A := ⟨Y.1, Y.2.1, Y.2.2.1⟩
def gPe (Γ : gG) (ad : Nat → Nat) (μ : gM) (sz : Nat) (U : State) : Prop := gPc Γ ad μ sz U ∧ gEx U
def gMtE0 (l : Launch) (Γ : gG) (y : MethodName) (ws : List Cond) (rm : Room) (mc ms : Nat) (ad : Nat → Nat) (μ : gM) (As : List Value) (res : Option Value × gM) : Prop := ∀ sz : Nat, Met l y ws rm (va_Pc As (gPe Γ ad μ sz)) (gQ0 Γ ad μ.1 res (gA ad μ sz)) mc ms (gA ad μ sz)
def gMtE1 (l : Launch) (Γ : gG) (y : MethodName) (ws : List Cond) (rm : Room) (mc ms : Nat) (ad : Nat → Nat) (μ : gM) (As : List Value) (res : Option Value × gM) : Prop := ∀ sz : Nat, Met l y ws rm (va_Pc As (gPe Γ ad μ sz)) (gQ1 Γ ad μ.1 res (gA ad μ sz)) mc ms (gA ad μ sz)
theorem gPe.blind {sz : Nat} {av : List Value} : FrameBlind (va_Pc av (gPe Γ ad μ sz)) := fun a U g mk h => by
  obtain ⟨h0, ⟨h1, h2, h3⟩, h4⟩ := h
  exact ⟨h0, ⟨h1, gK.warm (U := U.calling g mk a) (show U.WarmedH (U.calling g mk a).vm from State.WarmedH.refl U) h2, h3⟩, gEx.warm (s := U) (U := U.calling g mk a) (show U.WarmedH (U.calling g mk a).vm from State.WarmedH.refl U) (fun q cell h _ => h) h4⟩
theorem gPe.pre {av : List Value} (X : gX p m c cc nL s args own Γ A) (Z : gZ l s A) (h : gWd Γ A nz ad μ s.heap H locs) : ∀ U : State, U.heap = H → s.WarmedH U.vm → va_Pc av (gPe Γ ad μ H.size) av.toArray U := fun U hU hW => by
  obtain ⟨h0, h1⟩ := gPc.pre (av := av) X h U hU hW
  refine ⟨h0, h1, gEx.warm hW (fun q cell hq hs => ?_) Z.2.1⟩
  rw [hU]
  have hlt : q < s.heap.size := (Array.getElem?_eq_some_iff.mp hq).1
  rw [h.2.2.1.2.1 q hlt (fun hA => by have := Z.2.2 q cell hA hq; rw [hs] at this; cases this)]
  exact hq
/-- the statics' cells are none of the method's own -/
theorem gWd.noStat {H0 : Heap} {A1 : Nat → Prop} {n1 : Nat} (h : gWd Γ A1 n1 ad μ H0 H []) : ∀ (q : Nat) (cell : Cell), gA ad μ H.size q → H[q]? = some cell → cell.vm.isStatics = false := by
  intro q cell hq hc
  rcases hq with ⟨i, x, hx, rfl⟩ | hq
  · have hat := (h.1 i x hx).2.2.1
    cases x with
    | inl a =>
      have h1 : H[ad i]? = some _ := hat
      rw [h1] at hc
      cases hc
      obtain ⟨t, k, x⟩ := a
      rcases x with f | f | f | f | g <;> rfl
    | inr o =>
      obtain ⟨r, -, cell', h1, -, h3, -⟩ := hat
      rw [h1] at hc
      cases hc
      rw [h3]
      rfl
  · rw [Array.getElem?_eq_none hq] at hc
    cases hc
theorem g_startW {ws' : List Cond} {Qc : Array Value → State → Outcome → State → Prop} {sz : Nat} (hst : l.stackTraces = false) (hy : plainName y.cls = true) (hw : ws = Cond.codeWith y cc maxL ret hh :: ws') (hall : ∀ w ∈ lw_all, w ∈ ws) (hlen : (lg_sl As).length ≤ maxL)
    (body : ∀ (p : Program) (e : Env) (s : State) (m : MethodId) (below : List Frame) (meth : Method) (c : Code) (ls : Array Slot), meth.sig.returnType = ret → meth.locks = false → (meth.name = y.name) → gX p m c cc maxL s As.toArray y.cls Γ (gA ad μ sz) → gY l s (gA ad μ sz) c hh → gWd Γ (gA ad μ sz) μ.1 ad μ s.heap s.heap [] → lv_has ls maxL (lv_args 0 As) →
      W p l e (headSpec ws rm).room s m As.toArray below meth c s.heap [] 0 0 (MQ below Qc As.toArray s mc ms (gA ad μ sz)) (F0 m 0 ls [])) : Met l y ws rm (va_Pc As (gPe Γ ad μ sz)) Qc mc ms (gA ad μ sz) := by
  refine va_MetW (cc := cc) (maxL := maxL) (ret := ret) (hh := hh) hy hw ?_
  intro p e s m args below meth c s₁ B hml hv
  obtain ⟨rfl, ⟨hsz, hK, hW⟩, hE⟩ := hv
  have hts := atoms_spec (ws := ws) B.pre
  have hown : s.vm.findClass y.cls = some m.cls := findClass_of_methodNamed B.named
  have hl := lv_entry As (n := maxL) hlen
  obtain ⟨m9, meth9, c9, hn9, g1, g2, g3, g4, g5, -⟩ := Cond.codeWith_spec (hts (Cond.codeWith y cc maxL ret hh) (by rw [hw]; exact List.mem_cons_self))
  cases B.named.symm.trans hn9
  cases B.method.symm.trans g1
  have hvm : s₁.vm = s.vm := by rw [B.state]; rfl
  have hmc : meth.code = some c := (Stand.of_body B).code
  cases hmc.symm.trans g2
  rw [lg_entry_eq]
  subst hsz
  exact body p e s m below meth c _ B.returns B.notSynchronized (name_of_methodNamed B.named B.method).1 ⟨⟨B.exec, B.bytes, hml, hown, fun w h => hts w (hall w h)⟩, hK, fun q h => Or.inr h⟩ ⟨hst, hE, hW.noStat, g5⟩ (hW.self _) hl
/-- the start of a method without handlers that calls one with -/
theorem g_startE {ws' : List Cond} {Qc : Array Value → State → Outcome → State → Prop} {sz : Nat} (hst : l.stackTraces = false) (hy : plainName y.cls = true) (hw : ws = Cond.code y cc maxL ret :: ws') (hall : ∀ w ∈ lw_all, w ∈ ws) (hlen : (lg_sl As).length ≤ maxL)
    (body : ∀ (p : Program) (e : Env) (s : State) (m : MethodId) (below : List Frame) (meth : Method) (c : Code) (ls : Array Slot), meth.sig.returnType = ret → meth.locks = false → (meth.name = y.name) → gX p m c cc maxL s As.toArray y.cls Γ (gA ad μ sz) → gZ l s (gA ad μ sz) → gWd Γ (gA ad μ sz) μ.1 ad μ s.heap s.heap [] → lv_has ls maxL (lv_args 0 As) →
      W p l e (headSpec ws rm).room s m As.toArray below meth c s.heap [] 0 0 (MQ below Qc As.toArray s mc ms (gA ad μ sz)) (F0 m 0 ls [])) : Met l y ws rm (va_Pc As (gPe Γ ad μ sz)) Qc mc ms (gA ad μ sz) := by
  refine Met.ofW (cc := cc) (maxL := maxL) (ret := ret) hy hw ?_
  intro p e s m args below meth c s₁ B hml hv
  obtain ⟨rfl, ⟨hsz, hK, hW⟩, hE⟩ := hv
  have hts := atoms_spec (ws := ws) B.pre
  have hown : s.vm.findClass y.cls = some m.cls := findClass_of_methodNamed B.named
  have hl := lv_entry As (n := maxL) hlen
  rw [lg_entry_eq]
  subst hsz
  exact body p e s m below meth c _ B.returns B.notSynchronized (name_of_methodNamed B.named B.method).1 ⟨⟨B.exec, B.bytes, hml, hown, fun w h => hts w (hall w h)⟩, hK, fun q h => Or.inr h⟩ ⟨hst, hE, hW.noStat⟩ (hW.self _) hl
theorem g_allW {b : ByteArray} : ∀ w ∈ lw_all, w ∈ wsW_ y b maxL ret hh := fun _ h => List.mem_cons_of_mem _ h
/-- what the call of a method with handlers asks -/
def x_CW (R : Room) (s : State) (args : Array Value) (own C : String) (index : Nat) (y : MethodName) (bytes : ByteArray) (maxL : Nat) (ret : Option FieldType) (hh : List (Nat × Nat × Nat × Nat)) (ws : List Cond) (rm : Room) (mc ms n : Nat) : Prop :=
  (rm.cells = mc ∧ rm.slots = ms ∧ rm.frames + 1 ≤ R.frames ∧ 8 + (maxL + 11) + rm.locals ≤ R.locals ∧ (∀ w ∈ ws, ∀ (a' : Array Value) (U : State), s.WarmedH U.vm → w.before a' U = true) ∧ Cond.codeWith y bytes maxL ret hh ∈ ws) ∧
  (Cond.codeWith y bytes maxL ret hh).before args s = true ∧ (Cond.initialized y.cls).before args s = true ∧ (y.cls ≠ "java/lang/invoke/MethodHandle" ∧ y.cls ≠ "java/lang/invoke/VarHandle") ∧ (∀ sig, parseMethodDescriptor y.desc = some sig → n = sig.parameters.length) ∧ (Cond.methodLink own index y).before args s = true ∧ (Cond.instanceMethod y).before args s = true ∧ (Cond.selects C y y).before args s = true
theorem x_cw {Ts ws' : List Cond} (n : Nat) (ht : ∀ w ∈ Ts, w.before args s = true) (hT : GoodIn Ts (wsV own index C y ws)) (hw : ws = Cond.codeWith y bytes maxL ret hh :: ws') (hrc : rm.cells = mc) (hrs : rm.slots = ms)
    (hd : y.cls = C ∧ y.cls ≠ "java/lang/invoke/MethodHandle" ∧ y.cls ≠ "java/lang/invoke/VarHandle" ∧ (parseMethodDescriptor y.desc).map (fun d => d.parameters.length) = some n) (hR : rm.frames + 1 ≤ R.frames ∧ 8 + (maxL + 11) + rm.locals ≤ R.locals) :
    x_CW R s args own C index y bytes maxL ret hh ws rm mc ms n := by
  obtain ⟨hC, hd⟩ := hd
  subst hC
  have ok : ∀ w ∈ wsV own index y.cls y ws, w.before args s = true := fun w h => ht w (hT w h).1
  have hG : GoodIn Ts ws := fun w h => hT w (by unfold wsV; exact List.mem_append_right _ h)
  have hc : Cond.codeWith y bytes maxL ret hh ∈ ws := by rw [hw]; exact List.mem_cons_self
  refine ⟨⟨hrc, hrs, hR.1, hR.2, pay_in ht hG, hc⟩, ht _ (hG _ hc).1, ok _ (by simp [wsV]), ⟨hd.1, hd.2.1⟩, fun sig h => ?_, ok _ (by simp [wsV]), ok _ (by simp [wsV]), ok _ (by simp [wsV])⟩
  have h2 := hd.2.2
  rw [h] at h2
  exact (Option.some.inj h2).symm
theorem x_runV {Pc : Array Value → State → Prop} {Qc : Array Value → State → Outcome → State → Prop} {free : Addr → Prop} {b : Addr} {g : JFrame} {Ts : List Cond} (S : CallFix p m c cc nL s args Ts own) (hM : Met l y ws rm Pc Qc mc ms free) (cw : x_CW R s args own C index y bytes maxL ret hh ws rm mc ms n) (hp : PreV s H C b Pc As)
    (hg : g.method = m) (hn : As.length = n) (hsize : g.locals.size = nL) (hstack : g.stack = As.reverse ++ .ref b :: rest) (hW : 2 * g.monitorRoom + (rest.map fun v => v.category).sum ≤ 8) (hdg : decode cc g.pc = .ok (.invokevirtual index, 3)) (hf : cells + mc ≤ R.cells ∧ slots + ms ≤ R.slots) :
    va_Run p l e R s m args below meth c H locs cells slots mc ms g rest (Qc (Value.ref b :: As).toArray) free := by
  obtain ⟨⟨hrc, hrs, hfr, hlo, hws, hcw⟩, hcode, hini, hy, hlen, hl, hin, hse⟩ := cw
  have hK : Back l R p e below s args y 3 8 (PreOf R mc ms Pc) (PostOf Qc mc ms free) := va_backW (hh := hh) (bytes := bytes) (maxL := maxL) (ret := ret) hM hp.1 hrc hrs hfr hlo hws hcw (fun a' U hW => word_at hW (Or.inl (by first | rfl | simp [Cond.onTables, Cond.keeps, Cond.steady])) hini)
  obtain ⟨hx, hb, hml, ho, -⟩ := S
  obtain ⟨-, ⟨cellB, hcB, hoB, hclB⟩, hPc⟩ := hp
  intro T hT X
  obtain ⟨mk, methM, hnamed, hmethM, hstM, habM⟩ := Cond.instanceMethod_spec hin
  obtain ⟨mk', methM', cM, hnamed', hmethM', -, -, -, -, -, -, hsigM⟩ := Cond.codeWith_spec hcode
  cases hnamed.symm.trans hnamed'
  cases hmethM.symm.trans hmethM'
  obtain ⟨c2, r2, m2, q1, q2, q3, q4, kP, hkP, hkPi⟩ := Cond.selects_spec hse
  cases hclB.symm.trans q1
  cases (State.methodFound?_of_named hnamed hy).symm.trans q2
  cases hnamed.symm.trans q3
  have hselP : selectMethod e.platform s.vm cellB.cls mk = .method mk := by rw [Launch.admits_selectMethod X.admits]; exact q4
  subst hT
  obtain ⟨vm₁, X₁, hstep₁⟩ := X.invokevirtual hx ho hl hnamed hmethM hstM hkP hkPi hy (a := b) (cell := cellB) hcB
    (fun z h => by rw [h] at hoB; cases hoB) hselP hmethM habM hkP hkPi (g := g) hg (argsL := As) (rest := rest) (hn.trans (hlen _ hsigM)) hstack (by rw [hb]; exact hdg)
  obtain ⟨v, ⟨U', l2, c2, s2⟩, X', ⟨g', mk', t, L, e1, e2, hq, h1, hL, h2, h3⟩, hsteps⟩ := hK m meth c ⟨T.setVm vm₁, locs, cells, slots⟩ { g with stack := rest } (.invokevirtual index) mk (Value.ref b :: As).toArray X₁ hg (hsize.trans hml.symm) (by rw [hb]; exact hdg) hW (X₁.named hnamed) ⟨hf.1, hf.2, hPc (T.setVm vm₁) rfl X₁.warmed⟩
  dsimp only [Pt.U, Pt.locs, Pt.cells, Pt.slots] at X' e1 e2 h1 h2 h3 hsteps
  subst h1; subst h2; subst h3
  exact ⟨v, (T.setVm vm₁).calling g' mk' (Value.ref b :: As).toArray, t, U', L, rfl, X', hL, e1, e2, hq, fun target h => hstep₁ _ fun acts => by rw [doInvoke_state]; exact hsteps.trans h⟩
/-- the call of a method with handlers -/
theorem r_cE0 {kt : Int32 → gM → gR} (X : gX p m c cc nL s args own Γ A) (Z : gZ l s A) (h : gWd Γ A nz ad μ s.heap H locs) (hf : gis μ i ci (cI o kt) = some r) (hM : ∀ res : Option Value × gM, o = some res → gMtE0 l Γ y ws rm mc ms ad μ (.ref (ad i) :: As) res) (hc : gCl[ci]? = some (C, T, N)) (cw : x_CW R s args own C index y bytes maxL ret hh ws rm mc ms n) (hn : As.length = n) (hg : gSt m ls nL R cells slots mc ms rest) (hst : st0 = As.reverse ++ .ref (ad i) :: rest) (d : decode cc pc = .ok (.invokevirtual index, 3))
    (kk : ∀ (x : Int32) (μ1 : gM) (H1 : Heap) (locs1 : List Loc), kt x μ1 = some r → gWd Γ A nz ad μ1 s.heap H1 locs1 → W p l e R s m args below meth c H1 locs1 (cells + mc) (slots + ms) Q (F0 m (pc + 3) ls (.int x :: rest))) : W p l e R s m args below meth c H locs cells slots Q (F0 m pc ls st0) := by
  obtain ⟨⟨fs, he⟩, hf⟩ := gis_some hf
  obtain ⟨x, μ1, ho, hf⟩ := cI_some hf
  exact r_back0 X h (x_runV X.1 (hM _ ho _) cw ⟨gPe.blind, h.recv X hc he, gPe.pre X Z h⟩ rfl hn hg.1 hst (lv_room hg.2.1) d hg.2.2) (fun H1 locs1 h1 => kk x μ1 H1 locs1 hf h1)
theorem r_cE1 {kt : Int32 → gM → gR} (X : gX p m c cc nL s args own Γ A) (Z : gZ l s A) (h : gWd Γ A nz ad μ s.heap H locs) (hf : gis μ i ci (cI o kt) = some r) (hM : ∀ res : Option Value × gM, o = some res → gMtE1 l Γ y ws rm mc ms ad μ (.ref (ad i) :: As) res) (hc : gCl[ci]? = some (C, T, N)) (cw : x_CW R s args own C index y bytes maxL ret hh ws rm mc ms n) (hn : As.length = n) (hg : gSt m ls nL R cells slots mc ms rest) (hst : st0 = As.reverse ++ .ref (ad i) :: rest) (d : decode cc pc = .ok (.invokevirtual index, 3))
    (kk : ∀ (x : Int32) (ad1 : Nat → Nat) (μ1 : gM) (H1 : Heap) (locs1 : List Loc), kt x μ1 = some r → (∀ i, i < μ.1 → ad1 i = ad i) → gWd Γ A nz ad1 μ1 s.heap H1 locs1 → W p l e R s m args below meth c H1 locs1 (cells + mc) (slots + ms) Q (F0 m (pc + 3) ls (.int x :: rest))) : W p l e R s m args below meth c H locs cells slots Q (F0 m pc ls st0) := by
  obtain ⟨⟨fs, he⟩, hf⟩ := gis_some hf
  obtain ⟨x, μ1, ho, hf⟩ := cI_some hf
  exact r_back1 X h (x_runV X.1 (hM _ ho _) cw ⟨gPe.blind, h.recv X hc he, gPe.pre X Z h⟩ rfl hn hg.1 hst (lv_room hg.2.1) d hg.2.2) (fun ad1 H1 locs1 hag h1 => kk x ad1 μ1 H1 locs1 hf hag h1)
/-- of one without (lay) -/
theorem r_cE2 {kt : Int32 → gM → gR} (X : gX p m c cc nL s args own Γ A) (Z : gZ l s A) (h : gWd Γ A nz ad μ s.heap H locs) (hf : gis μ i ci (cI o kt) = some r) (hM : ∀ res : Option Value × gM, o = some res → gMtE0 l Γ y ws rm mc ms ad μ (.ref (ad i) :: As) res) (hc : gCl[ci]? = some (C, T, N)) (cw : CallW R s args own C index y bytes maxL ret ws rm mc ms n) (hn : As.length = n) (hg : gSt m ls nL R cells slots mc ms rest) (hst : st0 = As.reverse ++ .ref (ad i) :: rest) (d : decode cc pc = .ok (.invokevirtual index, 3))
    (kk : ∀ (x : Int32) (μ1 : gM) (H1 : Heap) (locs1 : List Loc), kt x μ1 = some r → gWd Γ A nz ad μ1 s.heap H1 locs1 → W p l e R s m args below meth c H1 locs1 (cells + mc) (slots + ms) Q (F0 m (pc + 3) ls (.int x :: rest))) : W p l e R s m args below meth c H locs cells slots Q (F0 m pc ls st0) := by
  obtain ⟨⟨fs, he⟩, hf⟩ := gis_some hf
  obtain ⟨x, μ1, ho, hf⟩ := cI_some hf
  exact r_back0 X h (va_runV X.1 (hM _ ho _) cw ⟨gPe.blind, h.recv X hc he, gPe.pre X Z h⟩ rfl hn hg.1 hst (lv_room hg.2.1) d hg.2.2) (fun H1 locs1 h1 => kk x μ1 H1 locs1 hf h1)
end GCALLW
