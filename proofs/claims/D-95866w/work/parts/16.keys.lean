/-! MY ROWS 7: super's methods, a nest mate's, a key's constructor -/
set_option maxRecDepth 100000
theorem lw_U {own : String} {idx : Nat} {C owner : String} {x y : MethodName} {b : ByteArray} {L : Nat} {r : Option FieldType} (h1 : Cond.methodLink own idx x ∈ lw_all) (h2 : Cond.sameMethod x.cls owner x.name x.desc ∈ lw_all) (h3 : Cond.selects C x y ∈ lw_all) (h4 : Cond.instanceMethod y ∈ lw_all) (h5 : Cond.initialized y.cls ∈ lw_all) (h9 : Cond.code y b L r ∈ lw_all) : GoodIn lw_all (va_wsU own idx C owner x y (ws_ y b L r)) := by
  refine lw_app ?_ (lw_meth h9)
  intro w hw
  simp only [List.mem_cons, List.not_mem_nil, or_false] at hw
  rcases hw with e | e | e | e | e
  · rw [e]; exact h1
  · rw [e]; exact h2
  · rw [e]; exact h3
  · rw [e]; exact h4
  · rw [e]; exact h5
theorem lw_O {own : String} {idx : Nat} {C owner : String} {x y : MethodName} {b : ByteArray} {L : Nat} {r : Option FieldType} (h1 : Cond.methodLink own idx x ∈ lw_all) (h2 : Cond.sameMethod x.cls owner x.name x.desc ∈ lw_all) (h3 : Cond.instanceMethod ⟨owner, x.name, x.desc⟩ ∈ lw_all) (h4 : Cond.selects C x y ∈ lw_all) (h5 : Cond.instanceMethod y ∈ lw_all) (h6 : Cond.initialized y.cls ∈ lw_all) (h9 : Cond.code y b L r ∈ lw_all) : GoodIn lw_all (va_wsO own idx C owner x y (ws_ y b L r)) := by
  refine lw_app ?_ (lw_meth h9)
  intro w hw
  simp only [List.mem_cons, List.not_mem_nil, or_false] at hw
  rcases hw with e | e | e | e | e | e
  · rw [e]; exact h1
  · rw [e]; exact h2
  · rw [e]; exact h3
  · rw [e]; exact h4
  · rw [e]; exact h5
  · rw [e]; exact h6
theorem lw_SU {own : String} {idx : Nat} {y : MethodName} {b : ByteArray} {L : Nat} {r : Option FieldType} (h1 : Cond.methodLink own idx y ∈ lw_all) (h2 : Cond.sameMethod y.cls y.cls y.name y.desc ∈ lw_all) (h3 : Cond.superclass own y.cls ∈ lw_all) (h4 : Cond.instanceMethod y ∈ lw_all) (h5 : Cond.initialized y.cls ∈ lw_all) (h9 : Cond.code y b L r ∈ lw_all) : GoodIn lw_all (va_wsSU own idx y (ws_ y b L r)) := by
  refine lw_app ?_ (lw_meth h9)
  intro w hw
  simp only [List.mem_cons, List.not_mem_nil, or_false] at hw
  rcases hw with e | e | e | e | e
  · rw [e]; exact h1
  · rw [e]; exact h2
  · rw [e]; exact h3
  · rw [e]; exact h4
  · rw [e]; exact h5
section GKEYS
variable {p : Program} {l : Launch} {e : Env} {R : Room} {s : State} {m : MethodId} {args : Array Value} {below : List Frame} {meth : Method} {c : Code} {H : Heap} {locs : List Loc} {cells slots : Nat} {Q : State → Prop}
variable {cc : ByteArray} {pc nL : Nat} {ls : Array Slot} {rest st0 : List Value} {own : String} {Γ : gG} {A : Nat → Prop} {nz : Nat} {ad : Nat → Nat} {μ : gM} {r : Option Value × gM}
variable {y : MethodName} {bytes : ByteArray} {maxL n index i ci N mc ms : Nat} {ret : Option FieldType} {ws : List Cond} {rm : Room} {As : List Value} {C : String} {T : u_T} {o : gR}
theorem gkey {ci : Nat} (h1 : 3 ≤ ci) (h2 : ci ≤ 8) : ∃ (C : String) (T : u_T) (N : Nat), gCl[ci]? = some (C, T, N) := by
  rcases (show ci = 3 ∨ ci = 4 ∨ ci = 5 ∨ ci = 6 ∨ ci = 7 ∨ ci = 8 by omega) with rfl | rfl | rfl | rfl | rfl | rfl
  all_goals exact ⟨_, _, _, rfl⟩
theorem r_cSU {kt : Int32 → gM → gR} (X : gX p m c cc nL s args own Γ A) (h : gWd Γ A nz ad μ s.heap H locs) (hf : gik μ i (cI o kt) = some r) (hM : ∀ res : Option Value × gM, o = some res → gMt0 l Γ y ws rm 0 0 ad μ (.ref (ad i) :: As) res) (cw : va_CS R s args own index y bytes maxL ret ws rm 0 0 n) (hn : As.length = n) (hg : gSt m ls nL R cells slots 0 0 rest) (hst : st0 = As.reverse ++ .ref (ad i) :: rest) (d : decode cc pc = .ok (.invokespecial index, 3))
    (kk : ∀ (x : Int32) (μ1 : gM) (H1 : Heap) (locs1 : List Loc), kt x μ1 = some r → gWd Γ A nz ad μ1 s.heap H1 locs1 → W p l e R s m args below meth c H1 locs1 cells slots Q (F0 m (pc + 3) ls (.int x :: rest))) : W p l e R s m args below meth c H locs cells slots Q (F0 m pc ls st0) := by
  obtain ⟨⟨ci, fs, h1, h2, he⟩, hf⟩ := gik_some hf
  obtain ⟨x, μ1, ho, hf⟩ := cI_some hf
  obtain ⟨C, T, N, hc⟩ := gkey h1 h2
  exact r_back0 X h (g_runSU X h he (hM _ ho _) hc cw hn hg hst d) (fun H1 locs1 h1 => kk x μ1 H1 locs1 hf h1)
theorem r_cNI {host : String} {kt : Int32 → gM → gR} (X : gX p m c cc nL s args own Γ A) (h : gWd Γ A nz ad μ s.heap H locs) (hf : gis μ i ci (cI o kt) = some r) (hM : ∀ res : Option Value × gM, o = some res → gMt0 l Γ y ws rm 0 0 ad μ (.ref (ad i) :: As) res) (hc : gCl[ci]? = some (C, T, N)) (cw : va_CN R s args own index y host bytes maxL ret ws rm 0 0 n ∧ (Cond.instanceMethod y).before args s = true ∧ (Cond.selects C y y).before args s = true) (hn : As.length = n) (hg : gSt m ls nL R cells slots 0 0 rest) (hst : st0 = As.reverse ++ .ref (ad i) :: rest) (d : decode cc pc = .ok (.invokevirtual index, 3))
    (kk : ∀ (x : Int32) (μ1 : gM) (H1 : Heap) (locs1 : List Loc), kt x μ1 = some r → gWd Γ A nz ad μ1 s.heap H1 locs1 → W p l e R s m args below meth c H1 locs1 cells slots Q (F0 m (pc + 3) ls (.int x :: rest))) : W p l e R s m args below meth c H locs cells slots Q (F0 m pc ls st0) := by
  obtain ⟨⟨fs, he⟩, hf⟩ := gis_some hf
  obtain ⟨x, μ1, ho, hf⟩ := cI_some hf
  exact r_back0 X h (g_runVN X h he (hM _ ho _) hc cw hn hg hst d) (fun H1 locs1 h1 => kk x μ1 H1 locs1 hf h1)
/-- a key's final field, in the constructor of Key -/
def gpk (μ : gM) (i k : Nat) (v : Int32) (kt : gM → gR) : gR := gkc μ i fun c => if 3 ≤ c ∧ c ≤ 8 then gpf μ i c k (.int v) kt else none
theorem r_putFK (X : gX p m c cc nL s args "SandPiano$Key" Γ A) (h : gWd Γ A nz ad μ s.heap H locs) {k idx : Nat} {v : Int32} {kt : gM → gR} (hk : k < 3) (hl : Cond.fieldLink "SandPiano$Key" idx "SandPiano$Key" (TX3 k).2.1 (TX3 k).2.2.1 ∈ lw_all) (hin2 : meth.name = "<init>") (d : decode cc pc = .ok (.putfield idx, 3)) (hf : gpk μ i k v kt = some r)
    (kk : ∀ (μ1 : gM) (H1 : Heap) (locs1 : List Loc), kt μ1 = some r → gWd Γ A nz ad μ1 s.heap H1 locs1 → W p l e R s m args below meth c H1 locs1 cells slots Q (F0 m (pc + 3) ls rest)) : W p l e R s m args below meth c H locs cells slots Q (F0 m pc ls (.int v :: .ref (ad i) :: rest)) := by
  obtain ⟨ci, fs, he, hk2⟩ := gkc_some hf
  by_cases hc : 3 ≤ ci ∧ ci ≤ 8
  · rw [if_pos hc] at hk2
    rcases (show k = 0 ∨ k = 1 ∨ k = 2 by omega) with rfl | rfl | rfl
    all_goals
      rcases (show ci = 3 ∨ ci = 4 ∨ ci = 5 ∨ ci = 6 ∨ ci = 7 ∨ ci = 8 by omega) with rfl | rfl | rfl | rfl | rfl | rfl
      · exact r_putF X h (T := TX3) (ty := .int) (v := .int v) rfl in_X3 tyX3_ok nmX3 hk hl rfl rfl hin2 rfl (by decide +kernel) rfl rfl (fun j hj => by cases hj) d hk2 kk
      · exact r_putF X h (T := TX4) (ty := .int) (v := .int v) rfl in_X4 tyX4_ok nmX4 hk hl rfl rfl hin2 rfl (by decide +kernel) rfl rfl (fun j hj => by cases hj) d hk2 kk
      · exact r_putF X h (T := TX5) (ty := .int) (v := .int v) rfl in_X5 tyX5_ok nmX5 hk hl rfl rfl hin2 rfl (by decide +kernel) rfl rfl (fun j hj => by cases hj) d hk2 kk
      · exact r_putF X h (T := TX6) (ty := .int) (v := .int v) rfl in_X6 tyX6_ok nmX6 hk hl rfl rfl hin2 rfl (by decide +kernel) rfl rfl (fun j hj => by cases hj) d hk2 kk
      · exact r_putF X h (T := TX7) (ty := .int) (v := .int v) rfl in_X7 tyX7_ok nmX7 hk hl rfl rfl hin2 rfl (by decide +kernel) rfl rfl (fun j hj => by cases hj) d hk2 kk
      · exact r_putF X h (T := TX8) (ty := .int) (v := .int v) rfl in_X8 tyX8_ok nmX8 hk hl rfl rfl hin2 rfl (by decide +kernel) rfl rfl (fun j hj => by cases hj) d hk2 kk
  · rw [if_neg hc] at hk2
    cases hk2
/-- the start of a method's walk: from its body to its bundle -/
theorem g_startF {ws' : List Cond} {Qc : Array Value → State → Outcome → State → Prop} {sz : Nat} (hy : plainFor y = true) (hw : ws = Cond.code y cc maxL ret :: ws') (hall : ∀ w ∈ lw_all, w ∈ ws) (hlen : (lg_sl As).length ≤ maxL)
    (body : ∀ (p : Program) (e : Env) (s : State) (m : MethodId) (below : List Frame) (meth : Method) (c : Code) (ls : Array Slot), meth.sig.returnType = ret → meth.locks = false → (meth.name = y.name) → gX p m c cc maxL s As.toArray y.cls Γ (gA ad μ sz) → gWd Γ (gA ad μ sz) μ.1 ad μ s.heap s.heap [] → lv_has ls maxL (lv_args 0 As) →
      W p l e (headSpec ws rm).room s m As.toArray below meth c s.heap [] 0 0 (MQ below Qc As.toArray s mc ms (gA ad μ sz)) (F0 m 0 ls [])) : Met l y ws rm (va_Pc As (gPc Γ ad μ sz)) Qc mc ms (gA ad μ sz) := by
  refine va_MetF (cc := cc) (maxL := maxL) (ret := ret) hy hw ?_
  intro p e s m args below meth c s₁ B hml hv
  obtain ⟨rfl, hsz, hK, hW⟩ := hv
  have hts := atoms_spec (ws := ws) B.pre
  have hown : s.vm.findClass y.cls = some m.cls := findClass_of_methodNamed B.named
  have hl := lv_entry As (n := maxL) hlen
  rw [lg_entry_eq]
  subst hsz
  exact body p e s m below meth c _ B.returns B.notSynchronized (name_of_methodNamed B.named B.method).1 ⟨⟨B.exec, B.bytes, hml, hown, fun w h => hts w (hall w h)⟩, hK, fun q h => Or.inr h⟩ (hW.self _) hl
end GKEYS
