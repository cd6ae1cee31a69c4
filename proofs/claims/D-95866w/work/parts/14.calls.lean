/-! MY ROWS 5: calls and returns -/
set_option maxRecDepth 100000
section GCALL
variable {p : Program} {l : Launch} {e : Env} {R : Room} {s : State} {m : MethodId} {args : Array Value} {below : List Frame} {meth : Method} {c : Code} {H : Heap} {locs : List Loc} {cells slots : Nat} {Q : State → Prop}
variable {cc : ByteArray} {pc nL : Nat} {ls : Array Slot} {rest st0 : List Value} {own : String} {Γ : gG} {A : Nat → Prop} {nz : Nat} {ad : Nat → Nat} {μ : gM} {r : Option Value × gM}
variable {y : MethodName} {bytes : ByteArray} {maxL n index i ci N mc ms : Nat} {ret : Option FieldType} {ws : List Cond} {rm : Room} {As : List Value} {C : String} {T : u_T} {o : gR}
/-- what is the same at every call: the stack, the locals -/
def gSt (m : MethodId) (ls : Array Slot) (nL : Nat) (R : Room) (cells slots mc ms : Nat) (rest : List Value) : Prop := ls.size = nL ∧ (rest.map fun v => v.category).sum ≤ 8 ∧ cells + mc ≤ R.cells ∧ slots + ms ≤ R.slots
theorem g_runV (X : gX p m c cc nL s args own Γ A) (h : gWd Γ A nz ad μ s.heap H locs) {fs : List Value} (he : μ.2 i = some (.inr (ci, fs))) {Qc : Array Value → State → Outcome → State → Prop} (hM : Met l y ws rm (va_Pc (.ref (ad i) :: As) (gPc Γ ad μ H.size)) Qc mc ms (gA ad μ H.size)) (hc : gCl[ci]? = some (C, T, N)) (cw : CallW R s args own C index y bytes maxL ret ws rm mc ms n) (hn : As.length = n) (hg : gSt m ls nL R cells slots mc ms rest) (hst : st0 = As.reverse ++ .ref (ad i) :: rest) (d : decode cc pc = .ok (.invokevirtual index, 3)) :
    va_Run p l e R s m args below meth c H locs cells slots mc ms (F0 m pc ls st0) rest (Qc (Value.ref (ad i) :: As).toArray) (gA ad μ H.size) :=
  va_runV X.1 hM cw ⟨gPc.blind, h.recv X hc he, gPc.pre X h⟩ rfl hn hg.1 hst (lv_room hg.2.1) d hg.2.2
theorem g_runS (X : gX p m c cc nL s args own Γ A) (h : gWd Γ A nz ad μ s.heap H locs) {Qc : Array Value → State → Outcome → State → Prop} (hM : Met l y ws rm (va_Pc As (gPc Γ ad μ H.size)) Qc mc ms (gA ad μ H.size)) (cw : CallB R s args own index y bytes maxL ret ws rm mc ms n ∧ (Cond.static y).before args s = true) (hn : As.length = n) (hg : gSt m ls nL R cells slots mc ms rest) (hst : st0 = As.reverse ++ rest) (d : decode cc pc = .ok (.invokestatic index, 3)) :
    va_Run p l e R s m args below meth c H locs cells slots mc ms (F0 m pc ls st0) rest (Qc As.toArray) (gA ad μ H.size) :=
  va_runS X.1 hM cw ⟨gPc.blind, gPc.pre X h⟩ rfl hn hg.1 hst (lv_room hg.2.1) d hg.2.2
theorem g_runI (X : gX p m c cc nL s args own Γ A) (h : gWd Γ A nz ad μ s.heap H locs) {Qc : Array Value → State → Outcome → State → Prop} (hM : Met l y ws rm (va_Pc (.ref (ad i) :: As) (gPc Γ ad μ H.size)) Qc mc ms (gA ad μ H.size)) (cw : CallB R s args own index y bytes maxL none ws rm mc ms n ∧ y.name = "<init>" ∧ (Cond.instanceMethod y).before args s = true) (hn : As.length = n) (hg : gSt m ls nL R cells slots mc ms rest) (hst : st0 = As.reverse ++ .ref (ad i) :: rest) (d : decode cc pc = .ok (.invokespecial index, 3)) :
    va_Run p l e R s m args below meth c H locs cells slots mc ms (F0 m pc ls st0) rest (Qc (Value.ref (ad i) :: As).toArray) (gA ad μ H.size) :=
  va_runI X.1 hM cw ⟨gPc.blind, gPc.pre X h⟩ rfl hn hg.1 hst (lv_room hg.2.1) d hg.2.2
theorem g_runIN {host : String} (X : gX p m c cc nL s args own Γ A) (h : gWd Γ A nz ad μ s.heap H locs) {Qc : Array Value → State → Outcome → State → Prop} (hM : Met l y ws rm (va_Pc (.ref (ad i) :: As) (gPc Γ ad μ H.size)) Qc mc ms (gA ad μ H.size)) (cw : va_CN R s args own index y host bytes maxL none ws rm mc ms n ∧ y.name = "<init>" ∧ (Cond.instanceMethod y).before args s = true) (hn : As.length = n) (hg : gSt m ls nL R cells slots mc ms rest) (hst : st0 = As.reverse ++ .ref (ad i) :: rest) (d : decode cc pc = .ok (.invokespecial index, 3)) :
    va_Run p l e R s m args below meth c H locs cells slots mc ms (F0 m pc ls st0) rest (Qc (Value.ref (ad i) :: As).toArray) (gA ad μ H.size) :=
  va_runIN X.1 hM cw ⟨gPc.blind, gPc.pre X h⟩ rfl hn hg.1 hst (lv_room hg.2.1) d hg.2.2
theorem g_runVN {host : String} (X : gX p m c cc nL s args own Γ A) (h : gWd Γ A nz ad μ s.heap H locs) {fs : List Value} (he : μ.2 i = some (.inr (ci, fs))) {Qc : Array Value → State → Outcome → State → Prop} (hM : Met l y ws rm (va_Pc (.ref (ad i) :: As) (gPc Γ ad μ H.size)) Qc mc ms (gA ad μ H.size)) (hc : gCl[ci]? = some (C, T, N)) (cw : va_CN R s args own index y host bytes maxL ret ws rm mc ms n ∧ (Cond.instanceMethod y).before args s = true ∧ (Cond.selects C y y).before args s = true) (hn : As.length = n) (hg : gSt m ls nL R cells slots mc ms rest) (hst : st0 = As.reverse ++ .ref (ad i) :: rest) (d : decode cc pc = .ok (.invokevirtual index, 3)) :
    va_Run p l e R s m args below meth c H locs cells slots mc ms (F0 m pc ls st0) rest (Qc (Value.ref (ad i) :: As).toArray) (gA ad μ H.size) :=
  va_runVN X.1 hM cw ⟨gPc.blind, h.recv X hc he, gPc.pre X h⟩ rfl hn hg.1 hst (lv_room hg.2.1) d hg.2.2
theorem g_runU {x : MethodName} {owner : String} (X : gX p m c cc nL s args own Γ A) (h : gWd Γ A nz ad μ s.heap H locs) {fs : List Value} (he : μ.2 i = some (.inr (ci, fs))) {Qc : Array Value → State → Outcome → State → Prop} (hM : Met l y ws rm (va_Pc (.ref (ad i) :: As) (gPc Γ ad μ H.size)) Qc mc ms (gA ad μ H.size)) (hc : gCl[ci]? = some (C, T, N)) (cw : va_CU R s args own C owner index x y bytes maxL ret ws rm mc ms n) (hn : As.length = n) (hg : gSt m ls nL R cells slots mc ms rest) (hst : st0 = As.reverse ++ .ref (ad i) :: rest) (d : decode cc pc = .ok (.invokevirtual index, 3)) :
    va_Run p l e R s m args below meth c H locs cells slots mc ms (F0 m pc ls st0) rest (Qc (Value.ref (ad i) :: As).toArray) (gA ad μ H.size) :=
  va_runU X.1 hM cw ⟨gPc.blind, h.recv X hc he, gPc.pre X h⟩ rfl hn hg.1 hst (lv_room hg.2.1) d hg.2.2
theorem g_runSU (X : gX p m c cc nL s args own Γ A) (h : gWd Γ A nz ad μ s.heap H locs) {fs : List Value} (he : μ.2 i = some (.inr (ci, fs))) {Qc : Array Value → State → Outcome → State → Prop} (hM : Met l y ws rm (va_Pc (.ref (ad i) :: As) (gPc Γ ad μ H.size)) Qc mc ms (gA ad μ H.size)) (hc : gCl[ci]? = some (C, T, N)) (cw : va_CS R s args own index y bytes maxL ret ws rm mc ms n) (hn : As.length = n) (hg : gSt m ls nL R cells slots mc ms rest) (hst : st0 = As.reverse ++ .ref (ad i) :: rest) (d : decode cc pc = .ok (.invokespecial index, 3)) :
    va_Run p l e R s m args below meth c H locs cells slots mc ms (F0 m pc ls st0) rest (Qc (Value.ref (ad i) :: As).toArray) (gA ad μ H.size) :=
  va_runSU (X.K.1 ci _ hc).2 X.1 hM cw ⟨gPc.blind, h.recv X hc he, gPc.pre X h⟩ rfl hn hg.1 hst (lv_room hg.2.1) d hg.2.2
/-! the call of an instance method whose class is its receiver's -/
theorem r_cVI {kt : Int32 → gM → gR} (X : gX p m c cc nL s args own Γ A) (h : gWd Γ A nz ad μ s.heap H locs) (hf : gis μ i ci (cI o kt) = some r) (hM : ∀ res : Option Value × gM, o = some res → gMt0 l Γ y ws rm 0 0 ad μ (.ref (ad i) :: As) res) (hc : gCl[ci]? = some (C, T, N)) (cw : CallW R s args own C index y bytes maxL ret ws rm 0 0 n) (hn : As.length = n) (hg : gSt m ls nL R cells slots 0 0 rest) (hst : st0 = As.reverse ++ .ref (ad i) :: rest) (d : decode cc pc = .ok (.invokevirtual index, 3))
    (kk : ∀ (x : Int32) (μ1 : gM) (H1 : Heap) (locs1 : List Loc), kt x μ1 = some r → gWd Γ A nz ad μ1 s.heap H1 locs1 → W p l e R s m args below meth c H1 locs1 cells slots Q (F0 m (pc + 3) ls (.int x :: rest))) : W p l e R s m args below meth c H locs cells slots Q (F0 m pc ls st0) := by
  obtain ⟨⟨fs, he⟩, hf⟩ := gis_some hf
  obtain ⟨x, μ1, ho, hf⟩ := cI_some hf
  exact r_back0 X h (g_runV X h he (hM _ ho _) hc cw hn hg hst d) (fun H1 locs1 h1 => kk x μ1 H1 locs1 hf h1)
theorem r_cVJ {kt : Int64 → gM → gR} (X : gX p m c cc nL s args own Γ A) (h : gWd Γ A nz ad μ s.heap H locs) (hf : gis μ i ci (cJ o kt) = some r) (hM : ∀ res : Option Value × gM, o = some res → gMt0 l Γ y ws rm 0 0 ad μ (.ref (ad i) :: As) res) (hc : gCl[ci]? = some (C, T, N)) (cw : CallW R s args own C index y bytes maxL ret ws rm 0 0 n) (hn : As.length = n) (hg : gSt m ls nL R cells slots 0 0 rest) (hst : st0 = As.reverse ++ .ref (ad i) :: rest) (d : decode cc pc = .ok (.invokevirtual index, 3))
    (kk : ∀ (x : Int64) (μ1 : gM) (H1 : Heap) (locs1 : List Loc), kt x μ1 = some r → gWd Γ A nz ad μ1 s.heap H1 locs1 → W p l e R s m args below meth c H1 locs1 cells slots Q (F0 m (pc + 3) ls (.long x :: rest))) : W p l e R s m args below meth c H locs cells slots Q (F0 m pc ls st0) := by
  obtain ⟨⟨fs, he⟩, hf⟩ := gis_some hf
  obtain ⟨x, μ1, ho, hf⟩ := cJ_some hf
  exact r_back0 X h (g_runV X h he (hM _ ho _) hc cw hn hg hst d) (fun H1 locs1 h1 => kk x μ1 H1 locs1 hf h1)
theorem r_cVV {kt : gM → gR} (X : gX p m c cc nL s args own Γ A) (h : gWd Γ A nz ad μ s.heap H locs) (hf : gis μ i ci (cV o kt) = some r) (hM : ∀ res : Option Value × gM, o = some res → gMt0 l Γ y ws rm 0 0 ad μ (.ref (ad i) :: As) res) (hc : gCl[ci]? = some (C, T, N)) (cw : CallW R s args own C index y bytes maxL ret ws rm 0 0 n) (hn : As.length = n) (hg : gSt m ls nL R cells slots 0 0 rest) (hst : st0 = As.reverse ++ .ref (ad i) :: rest) (d : decode cc pc = .ok (.invokevirtual index, 3))
    (kk : ∀ (μ1 : gM) (H1 : Heap) (locs1 : List Loc), kt μ1 = some r → gWd Γ A nz ad μ1 s.heap H1 locs1 → W p l e R s m args below meth c H1 locs1 cells slots Q (F0 m (pc + 3) ls rest)) : W p l e R s m args below meth c H locs cells slots Q (F0 m pc ls st0) := by
  obtain ⟨⟨fs, he⟩, hf⟩ := gis_some hf
  obtain ⟨μ1, ho, hf⟩ := cV_some hf
  exact r_back0 X h (g_runV X h he (hM _ ho _) hc cw hn hg hst d) (fun H1 locs1 h1 => kk μ1 H1 locs1 hf h1)
/-! of a static method -/
theorem r_cSI {kt : Int32 → gM → gR} (X : gX p m c cc nL s args own Γ A) (h : gWd Γ A nz ad μ s.heap H locs) (hf : cI o kt = some r) (hM : ∀ res : Option Value × gM, o = some res → gMt0 l Γ y ws rm 0 0 ad μ As res) (cw : CallB R s args own index y bytes maxL ret ws rm 0 0 n ∧ (Cond.static y).before args s = true) (hn : As.length = n) (hg : gSt m ls nL R cells slots 0 0 rest) (hst : st0 = As.reverse ++ rest) (d : decode cc pc = .ok (.invokestatic index, 3))
    (kk : ∀ (x : Int32) (μ1 : gM) (H1 : Heap) (locs1 : List Loc), kt x μ1 = some r → gWd Γ A nz ad μ1 s.heap H1 locs1 → W p l e R s m args below meth c H1 locs1 cells slots Q (F0 m (pc + 3) ls (.int x :: rest))) : W p l e R s m args below meth c H locs cells slots Q (F0 m pc ls st0) := by
  obtain ⟨x, μ1, ho, hf⟩ := cI_some hf
  exact r_back0 X h (g_runS X h (hM _ ho _) cw hn hg hst d) (fun H1 locs1 h1 => kk x μ1 H1 locs1 hf h1)
theorem r_cSJ {kt : Int64 → gM → gR} (X : gX p m c cc nL s args own Γ A) (h : gWd Γ A nz ad μ s.heap H locs) (hf : cJ o kt = some r) (hM : ∀ res : Option Value × gM, o = some res → gMt0 l Γ y ws rm 0 0 ad μ As res) (cw : CallB R s args own index y bytes maxL ret ws rm 0 0 n ∧ (Cond.static y).before args s = true) (hn : As.length = n) (hg : gSt m ls nL R cells slots 0 0 rest) (hst : st0 = As.reverse ++ rest) (d : decode cc pc = .ok (.invokestatic index, 3))
    (kk : ∀ (x : Int64) (μ1 : gM) (H1 : Heap) (locs1 : List Loc), kt x μ1 = some r → gWd Γ A nz ad μ1 s.heap H1 locs1 → W p l e R s m args below meth c H1 locs1 cells slots Q (F0 m (pc + 3) ls (.long x :: rest))) : W p l e R s m args below meth c H locs cells slots Q (F0 m pc ls st0) := by
  obtain ⟨x, μ1, ho, hf⟩ := cJ_some hf
  exact r_back0 X h (g_runS X h (hM _ ho _) cw hn hg hst d) (fun H1 locs1 h1 => kk x μ1 H1 locs1 hf h1)
/-! methods that make cells -/
theorem r_cVI1 {kt : Int32 → gM → gR} (X : gX p m c cc nL s args own Γ A) (h : gWd Γ A nz ad μ s.heap H locs) (hf : gis μ i ci (cI o kt) = some r) (hM : ∀ res : Option Value × gM, o = some res → gMt1 l Γ y ws rm mc ms ad μ (.ref (ad i) :: As) res) (hc : gCl[ci]? = some (C, T, N)) (cw : CallW R s args own C index y bytes maxL ret ws rm mc ms n) (hn : As.length = n) (hg : gSt m ls nL R cells slots mc ms rest) (hst : st0 = As.reverse ++ .ref (ad i) :: rest) (d : decode cc pc = .ok (.invokevirtual index, 3))
    (kk : ∀ (x : Int32) (ad1 : Nat → Nat) (μ1 : gM) (H1 : Heap) (locs1 : List Loc), kt x μ1 = some r → (∀ i, i < μ.1 → ad1 i = ad i) → gWd Γ A nz ad1 μ1 s.heap H1 locs1 → W p l e R s m args below meth c H1 locs1 (cells + mc) (slots + ms) Q (F0 m (pc + 3) ls (.int x :: rest))) : W p l e R s m args below meth c H locs cells slots Q (F0 m pc ls st0) := by
  obtain ⟨⟨fs, he⟩, hf⟩ := gis_some hf
  obtain ⟨x, μ1, ho, hf⟩ := cI_some hf
  exact r_back1 X h (g_runV X h he (hM _ ho _) hc cw hn hg hst d) (fun ad1 H1 locs1 hag h1 => kk x ad1 μ1 H1 locs1 hf hag h1)
theorem r_cSP1 {kt : Nat → gM → gR} (X : gX p m c cc nL s args own Γ A) (h : gWd Γ A nz ad μ s.heap H locs) (hf : cP o kt = some r) (hM : ∀ res : Option Value × gM, o = some res → gMt1 l Γ y ws rm mc ms ad μ As res) (cw : CallB R s args own index y bytes maxL ret ws rm mc ms n ∧ (Cond.static y).before args s = true) (hn : As.length = n) (hg : gSt m ls nL R cells slots mc ms rest) (hst : st0 = As.reverse ++ rest) (d : decode cc pc = .ok (.invokestatic index, 3))
    (kk : ∀ (x : Nat) (ad1 : Nat → Nat) (μ1 : gM) (H1 : Heap) (locs1 : List Loc), kt x μ1 = some r → (∀ i, i < μ.1 → ad1 i = ad i) → gWd Γ A nz ad1 μ1 s.heap H1 locs1 → W p l e R s m args below meth c H1 locs1 (cells + mc) (slots + ms) Q (F0 m (pc + 3) ls (.ref (ad1 x) :: rest))) : W p l e R s m args below meth c H locs cells slots Q (F0 m pc ls st0) := by
  obtain ⟨x, μ1, ho, hf⟩ := cP_some hf
  exact r_back1 X h (g_runS X h (hM _ ho _) cw hn hg hst d) (fun ad1 H1 locs1 hag h1 => kk x ad1 μ1 H1 locs1 hf hag h1)
/-- constructors: of any kind of call, with the contract's run -/
theorem r_cX0 {kt : gM → gR} (X : gX p m c cc nL s args own Γ A) (h : gWd Γ A nz ad μ s.heap H locs) (hf : cV o kt = some r) (hM : ∀ res : Option Value × gM, o = some res → ∃ a : Array Value, va_Run p l e R s m args below meth c H locs cells slots mc ms (F0 m pc ls st0) rest (gQ0 Γ ad μ.1 res (gA ad μ H.size) a) (gA ad μ H.size))
    (kk : ∀ (μ1 : gM) (H1 : Heap) (locs1 : List Loc), kt μ1 = some r → gWd Γ A nz ad μ1 s.heap H1 locs1 → W p l e R s m args below meth c H1 locs1 (cells + mc) (slots + ms) Q (F0 m (pc + 3) ls rest)) : W p l e R s m args below meth c H locs cells slots Q (F0 m pc ls st0) := by
  obtain ⟨μ1, ho, hf⟩ := cV_some hf
  obtain ⟨a, ha⟩ := hM _ ho
  exact r_back0 X h ha (fun H1 locs1 h1 => kk μ1 H1 locs1 hf h1)
theorem r_cX1 {kt : gM → gR} (X : gX p m c cc nL s args own Γ A) (h : gWd Γ A nz ad μ s.heap H locs) (hf : cV o kt = some r) (hM : ∀ res : Option Value × gM, o = some res → ∃ a : Array Value, va_Run p l e R s m args below meth c H locs cells slots mc ms (F0 m pc ls st0) rest (gQ1 Γ ad μ.1 res (gA ad μ H.size) a) (gA ad μ H.size))
    (kk : ∀ (ad1 : Nat → Nat) (μ1 : gM) (H1 : Heap) (locs1 : List Loc), kt μ1 = some r → (∀ i, i < μ.1 → ad1 i = ad i) → gWd Γ A nz ad1 μ1 s.heap H1 locs1 → W p l e R s m args below meth c H1 locs1 (cells + mc) (slots + ms) Q (F0 m (pc + 3) ls rest)) : W p l e R s m args below meth c H locs cells slots Q (F0 m pc ls st0) := by
  obtain ⟨μ1, ho, hf⟩ := cV_some hf
  obtain ⟨a, ha⟩ := hM _ ho
  exact r_back1 X h ha (fun ad1 H1 locs1 hag h1 => kk ad1 μ1 H1 locs1 hf hag h1)
/-! returns -/
theorem r_ri {x : Int32} (X : gX p m c cc nL s args own Γ A) (h : gWd Γ A nz ad μ s.heap H locs) (hr : meth.sig.returnType = some .int) (hlk : meth.locks = false) (h1 : cells ≤ mc) (h2 : slots ≤ ms) (d : decode cc pc = .ok (.ireturn, 1)) (hf : (some (some (.int x), μ) : gR) = some r) : W p l e R s m args below meth c H locs cells slots (MQ below (gQ0 Γ ad nz r A) args s mc ms A) (F0 m pc ls [.int x]) := by
  cases hf
  refine W.widen h1 h2 ?_
  exact W.iret X.hx X.hb hr (fun t ht hW => ⟨rfl, by rw [ht]; exact ⟨h.1, h.2.1, ⟨h.2.2.1.1, h.2.2.1.2.1, fun _ h => by cases h⟩, h.2.2.2⟩⟩) h.2.2.1.2.2 d hlk
theorem r_rz {x : Int32} (X : gX p m c cc nL s args own Γ A) (h : gWd Γ A nz ad μ s.heap H locs) (hr : meth.sig.returnType = some .boolean) (hlk : meth.locks = false) (h1 : cells ≤ mc) (h2 : slots ≤ ms) (d : decode cc pc = .ok (.ireturn, 1)) (hf : rZ x μ = some r) : W p l e R s m args below meth c H locs cells slots (MQ below (gQ0 Γ ad nz r A) args s mc ms A) (F0 m pc ls [.int x]) := by
  obtain ⟨hx, hf⟩ := rZ_some hf
  cases hf
  refine W.widen h1 h2 ?_
  exact W.zret X.hx X.hb hr (by show Value.int (x &&& 1) = _; rw [hx]) (fun t ht hW => ⟨rfl, by rw [ht]; exact ⟨h.1, h.2.1, ⟨h.2.2.1.1, h.2.2.1.2.1, fun _ h => by cases h⟩, h.2.2.2⟩⟩) h.2.2.1.2.2 d hlk
theorem r_rl {x : Int64} (X : gX p m c cc nL s args own Γ A) (h : gWd Γ A nz ad μ s.heap H locs) (hr : meth.sig.returnType = some .long) (hlk : meth.locks = false) (h1 : cells ≤ mc) (h2 : slots ≤ ms) (d : decode cc pc = .ok (.lreturn, 1)) (hf : (some (some (.long x), μ) : gR) = some r) : W p l e R s m args below meth c H locs cells slots (MQ below (gQ0 Γ ad nz r A) args s mc ms A) (F0 m pc ls [.long x]) := by
  cases hf
  refine W.widen h1 h2 ?_
  exact W.lret X.hx X.hb hr (fun t ht hW => ⟨rfl, by rw [ht]; exact ⟨h.1, h.2.1, ⟨h.2.2.1.1, h.2.2.1.2.1, fun _ h => by cases h⟩, h.2.2.2⟩⟩) h.2.2.1.2.2 d hlk
theorem r_rv (X : gX p m c cc nL s args own Γ A) (h : gWd Γ A nz ad μ s.heap H locs) (hr : meth.sig.returnType = none) (hlk : meth.locks = false) (h1 : cells ≤ mc) (h2 : slots ≤ ms) (d : decode cc pc = .ok (.return_, 1)) (hf : (some (none, μ) : gR) = some r) : W p l e R s m args below meth c H locs cells slots (MQ below (gQ0 Γ ad nz r A) args s mc ms A) (F0 m pc ls []) := by
  cases hf
  refine W.widen h1 h2 ?_
  exact W.vret X.hx X.hb hr (fun t ht hW => ⟨rfl, by rw [ht]; exact ⟨h.1, h.2.1, ⟨h.2.2.1.1, h.2.2.1.2.1, fun _ h => by cases h⟩, h.2.2.2⟩⟩) h.2.2.1.2.2 d hlk
/-! returns of methods that make cells: ad0 the addresses at the start -/
theorem r_ri1 {x : Int32} {ad0 : Nat → Nat} (X : gX p m c cc nL s args own Γ A) (h : gWd Γ A nz ad μ s.heap H locs) (hag : ∀ i, i < nz → ad i = ad0 i) (hr : meth.sig.returnType = some .int) (hlk : meth.locks = false) (h1 : cells ≤ mc) (h2 : slots ≤ ms) (d : decode cc pc = .ok (.ireturn, 1)) (hf : (some (some (.int x), μ) : gR) = some r) : W p l e R s m args below meth c H locs cells slots (MQ below (gQ1 Γ ad0 nz r A) args s mc ms A) (F0 m pc ls [.int x]) := by
  cases hf
  refine W.widen h1 h2 ?_
  exact W.iret X.hx X.hb hr (fun t ht hW => ⟨ad, hag, rfl, by rw [ht]; exact ⟨h.1, h.2.1, ⟨h.2.2.1.1, h.2.2.1.2.1, fun _ h => by cases h⟩, h.2.2.2⟩⟩) h.2.2.1.2.2 d hlk
theorem r_rv1 {ad0 : Nat → Nat} (X : gX p m c cc nL s args own Γ A) (h : gWd Γ A nz ad μ s.heap H locs) (hag : ∀ i, i < nz → ad i = ad0 i) (hr : meth.sig.returnType = none) (hlk : meth.locks = false) (h1 : cells ≤ mc) (h2 : slots ≤ ms) (d : decode cc pc = .ok (.return_, 1)) (hf : (some (none, μ) : gR) = some r) : W p l e R s m args below meth c H locs cells slots (MQ below (gQ1 Γ ad0 nz r A) args s mc ms A) (F0 m pc ls []) := by
  cases hf
  refine W.widen h1 h2 ?_
  exact W.vret X.hx X.hb hr (fun t ht hW => ⟨ad, hag, rfl, by rw [ht]; exact ⟨h.1, h.2.1, ⟨h.2.2.1.1, h.2.2.1.2.1, fun _ h => by cases h⟩, h.2.2.2⟩⟩) h.2.2.1.2.2 d hlk
theorem r_ra1 {x : Nat} {rt : FieldType} {ad0 : Nat → Nat} (X : gX p m c cc nL s args own Γ A) (h : gWd Γ A nz ad μ s.heap H locs) (hag : ∀ i, i < nz → ad i = ad0 i) (hr : meth.sig.returnType = some rt) (hrt : (∃ n, rt = .object n) ∨ ∃ t, rt = .array t) (hlk : meth.locks = false) (h1 : cells ≤ mc) (h2 : slots ≤ ms) (d : decode cc pc = .ok (.areturn, 1)) (hf : (some (some (.ref x), μ) : gR) = some r) : W p l e R s m args below meth c H locs cells slots (MQ below (gQ1 Γ ad0 nz r A) args s mc ms A) (F0 m pc ls [.ref (ad x)]) := by
  cases hf
  refine W.widen h1 h2 ?_
  exact W.aret X.hx X.hb hr hrt (Or.inr ⟨_, rfl⟩) (fun t ht hW => ⟨ad, hag, rfl, by rw [ht]; exact ⟨h.1, h.2.1, ⟨h.2.2.1.1, h.2.2.1.2.1, fun _ h => by cases h⟩, h.2.2.2⟩⟩) h.2.2.1.2.2 d hlk
/-- the start of a method's walk: from its body to its bundle -/
theorem g_start {ws' : List Cond} {Qc : Array Value → State → Outcome → State → Prop} {sz : Nat} (hy : plainName y.cls = true) (hw : ws = Cond.code y cc maxL ret :: ws') (hall : ∀ w ∈ lw_all, w ∈ ws) (hlen : (lg_sl As).length ≤ maxL)
    (body : ∀ (p : Program) (e : Env) (s : State) (m : MethodId) (below : List Frame) (meth : Method) (c : Code) (ls : Array Slot), meth.sig.returnType = ret → meth.locks = false → (meth.name = y.name) → gX p m c cc maxL s As.toArray y.cls Γ (gA ad μ sz) → gWd Γ (gA ad μ sz) μ.1 ad μ s.heap s.heap [] → lv_has ls maxL (lv_args 0 As) →
      W p l e (headSpec ws rm).room s m As.toArray below meth c s.heap [] 0 0 (MQ below Qc As.toArray s mc ms (gA ad μ sz)) (F0 m 0 ls [])) : Met l y ws rm (va_Pc As (gPc Γ ad μ sz)) Qc mc ms (gA ad μ sz) := by
  refine Met.ofW (cc := cc) (maxL := maxL) (ret := ret) hy hw ?_
  intro p e s m args below meth c s₁ B hml hv
  obtain ⟨rfl, hsz, hK, hW⟩ := hv
  have hts := atoms_spec (ws := ws) B.pre
  have hown : s.vm.findClass y.cls = some m.cls := findClass_of_methodNamed B.named
  have hl := lv_entry As (n := maxL) hlen
  rw [lg_entry_eq]
  subst hsz
  exact body p e s m below meth c _ B.returns B.notSynchronized (name_of_methodNamed B.named B.method).1 ⟨⟨B.exec, B.bytes, hml, hown, fun w h => hts w (hall w h)⟩, hK, fun q h => Or.inr h⟩ (hW.self _) hl
theorem g_all {b : ByteArray} : ∀ w ∈ lw_all, w ∈ ws_ y b maxL ret := fun _ h => List.mem_cons_of_mem _ h
end GCALL
