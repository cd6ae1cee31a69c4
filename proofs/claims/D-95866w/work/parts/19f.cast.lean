/-! MY ROWS 15: a cast that fails -/
section GCAST
variable {p : Program} {l : Launch} {e : Env} {R : Room} {s : State} {m : MethodId} {args : Array Value} {below : List Frame} {meth : Method} {c : Code} {H : Heap} {locs : List Loc} {cells slots : Nat} {Q : State → Prop}
variable {cc : ByteArray} {pc nL hN hO : Nat} {ls : Array Slot} {rest : List Value} {own : String} {Γ : gG} {A : Nat → Prop} {nz : Nat} {ad : Nat → Nat} {μ : gM} {r : Option Value × gM} {hh : List (Nat × Nat × Nat × Nat)}
theorem x_cls {vm : Vm} {name : String} {ci : ClassId} (h : vm.findClass name = some ci) : ∃ k, vm.classes[ci]? = some k ∧ k.name = name ∧ k.hidden = none ∧ k.loader = none ∧ (((withoutBrackets name).length == 1) = false → k.ofPrimitives = false) := by
  obtain ⟨hlt, h1, -⟩ := Array.findIdx?_eq_some_iff_getElem.mp h
  refine ⟨_, Array.getElem?_eq_getElem hlt, ?_⟩
  simp only [Bool.and_eq_true, beq_iff_eq, Option.isNone_iff_eq_none] at h1
  refine ⟨h1.1.1.1, h1.1.1.2, h1.2, fun h9 => ?_⟩
  unfold Class.ofPrimitives
  have h2 := h1.1.2
  split
  · rename_i hk; rw [hk] at h2; cases h2
  · rw [h1.1.1.1]; exact h9
  · rfl
theorem x_ownOf {vm : Vm} {name : String} {ci : ClassId} (h : vm.findClass name = some ci) (hn : (!((withoutBrackets name).length == 1) && (packageOf name == "") && decide ((dotted name).toList.length ≤ 15)) = true) : ∃ k, vm.classes[ci]? = some k ∧ k.hidden = none ∧ k.loader = none ∧ k.ofPrimitives = false ∧ packageOf k.name = "" ∧ (dotted k.name).toList.length ≤ 15 := by
  obtain ⟨k, h1, h2, h3, h4, h5⟩ := x_cls h
  simp only [Bool.and_eq_true, Bool.not_eq_true', beq_iff_eq, decide_eq_true_eq] at hn
  exact ⟨k, h1, h3, h4, h5 hn.1.1, by rw [h2]; exact hn.1.2, by rw [h2]; exact hn.2⟩
/-- a class of the unnamed package of the bootstrap loader -/
def x_own (k : Class) : Prop := k.hidden = none ∧ k.loader = none ∧ k.ofPrimitives = false ∧ packageOf k.name = "" ∧ (dotted k.name).toList.length ≤ 15
theorem x_home {k : Class} (hk : x_own k) (hm : modulesRight_1 s = true) : (s.vm.home k).toList.length ≤ 40 := by
  obtain ⟨h1, h2, h3, h4, -⟩ := hk
  unfold Vm.home Vm.moduleOf
  rw [h3, h2, h4]
  simp only [Bool.false_eq_true, if_false]
  cases hf : s.vm.modules.find? (fun m => m.loader == none && m.packages.contains "") with
  | none =>
    simp only [Vm.loaderName]
    decide +kernel
  | some x =>
    have hx := List.find?_some hf
    have hmem := List.mem_of_find?_eq_some hf
    simp only [Bool.and_eq_true, beq_iff_eq] at hx
    have hr := List.all_eq_true.mp hm x hmem
    simp only [castPackages_1, List.any_cons, hx.1, hx.2, Option.isSome_none, Bool.false_or, Bool.true_or, Bool.not_true, Bool.or_false, beq_iff_eq] at hr
    simp only [hr, Vm.loaderName]
    decide +kernel
theorem x_castText {a b : Class} (ha : x_own a) (hb : x_own b) (hm : modulesRight_1 s = true) : (Op.checkcast.message s.vm a b).toList.length ≤ 250 := by
  have h1 := x_home ha hm
  have h2 := x_home hb hm
  have e1 : a.shown = dotted a.name := by unfold Class.shown; rw [ha.1]
  have e2 : b.shown = dotted b.name := by unfold Class.shown; rw [hb.1]
  have h3 := ha.2.2.2.2
  have h4 := hb.2.2.2.2
  unfold Op.checkcast.message Vm.homes
  rw [e1, e2]
  split <;> simp only [toString, String.toList_append, List.length_append] <;> (repeat (first | omega | (simp; omega)))
theorem x_castMod {vm : Vm} {a b : Class} : ((Op.checkcast.message vm a b) == notModelled) = false := by
  rw [beq_eq_false_iff_ne]
  intro h
  have h2 := congrArg String.toList h
  have h4 : notModelled.toList = '\u0000' :: " a message that is not modelled".toList := by decide
  rw [h4] at h2
  unfold Op.checkcast.message at h2
  simp only [toString, String.toList_append] at h2
  have h5 := congrArg List.head? h2
  have h6 : "class ".toList = 'c' :: "lass ".toList := by decide
  simp [h6] at h5
/-- the cast fails: to the note -/
theorem x_castS {T : State} (X : Stand p l e R s m args below meth c T locs cells slots) (hexec : p.tables.exec = Jvm.exec) {own name : String} {index : Nat} (hown : s.vm.findClass own = some m.cls) (hlink : (Cond.classLink own index name).before args s = true)
    {a : Addr} {cell : Cell} {cT : ClassId} {ks kt : Class} (hcell : T.heap[a]? = some cell) (hobj : cell.vm.isStatics = false) (hks : s.vm.classes[cell.cls]? = some ks) (hkt : s.vm.classes[cT]? = some kt) (hcT : s.vm.findClass name = some cT) (hasg : s.vm.assignable cell.cls cT = false)
    {g : JFrame} (hg : g.method = m) {rest : List Value} (hstack : g.stack = .ref a :: rest) (hdg : decode c.code g.pc = .ok (.checkcast index, 3)) :
    ∃ (vm' : Vm) (ks' kt' : Class), vm'.modules = s.vm.modules ∧ vm'.classes[cell.cls]? = some ks' ∧ vm'.classes[cT]? = some kt' ∧ s.vm.Alike vm' ∧ Stand p l e R s m args below meth c (T.setVm vm') locs cells slots ∧
      ∀ t, Steps p.tables e below (((T.setVm vm').setTop g).pushFrame (.throwNew "java/lang/ClassCastException" (some (Op.checkcast.message vm' ks' kt')) none)) t → Steps p.tables e below (T.setTop g) t := by
  have hpl : e.platform.magicAccessors = ({} : Platform).magicAccessors := by rw [X.admits.platform]
  obtain ⟨c', hc', hcl⟩ := Cond.classLink_spec hown hlink e.platform hpl
  cases hcT.symm.trans hc'
  obtain ⟨dk, _, _, kt0, hd, _, _, _, _, hkt0, _, hopen⟩ := hcl.here
  have hcl₀ := X.warmed.classLinks hcl
  have hW' : s.WarmedH (T.vm.noted m.cls index (.cls cT)) := X.warmed.noted hd hopen (State.rightAt_cls hcl)
  obtain ⟨ks', hks', -⟩ := hW'.alike.2.2 _ _ hks
  obtain ⟨kt', hkt', -⟩ := hW'.alike.2.2 _ _ hkt
  refine ⟨T.vm.noted m.cls index (.cls cT), ks', kt', by rw [hW'.alike.1], hks', hkt', hW'.alike, X.noted hW', fun target hrest => ?_⟩
  subst hg
  have hob : ∀ k, cell.vm ≠ .statics k := VmData.ne_statics_of hobj
  have hna : (T.vm.noted g.method.cls index (.cls cT)).assignable cell.cls cT = false := by rw [hW'.alike.assignable]; exact hasg
  jvm_step X.here [hexec, hdg, Op.checkcast.wp_cold (e := e) (s := T) (f := g) X.here.top hstack (resolveClass_links e.toSetting hcl₀) hcl₀.ready,
    Op.checkcast.wp_ready (e := e) (s := T.setVm (T.vm.noted g.method.cls index (.cls cT))) (f := g) X.here.top hcl₀.ready hstack]
  refine ⟨cell, hcell, hob, ks', hks', kt', hkt', ?_⟩
  rw [if_neg (by rw [hna]; decide)]
  exact hrest
/-- which of the keys' classes are of which -/
def x_sub (c D : Nat) : Bool := c == D || (c == 7 && D == 4) || (c == 8 && D == 5)
theorem x_subP {c D : Nat} (h : x_sub c D = true) : c = D ∨ (c = 7 ∧ D = 4) ∨ (c = 8 ∧ D = 5) := by
  simp only [x_sub, Bool.or_eq_true, Bool.and_eq_true, beq_iff_eq] at h
  omega
def tcast (μ : gM) (i D : Nat) (kO : gR) (kt : gR) : gR := gkc μ i fun c => if x_sub c D = true then kt else if 3 ≤ c ∧ c ≤ 8 then kO else none
def x_nm (c : Nat) : String := match c with | 3 => RX3 | 4 => RX4 | 5 => RX5 | 6 => RX6 | 7 => RX7 | _ => RX8
theorem x_gcl {c : Nat} (h : 3 ≤ c ∧ c ≤ 8) : ∃ (T : u_T) (N : Nat), gCl[c]? = some (x_nm c, T, N) := by
  rcases (show c = 3 ∨ c = 4 ∨ c = 5 ∨ c = 6 ∨ c = 7 ∨ c = 8 by omega) with rfl | rfl | rfl | rfl | rfl | rfl <;> exact ⟨_, _, rfl⟩
theorem x_no {c D : Nat} (h : 3 ≤ c ∧ c ≤ 8) (hD : 4 ≤ D ∧ D ≤ 8) (hn : ¬ x_sub c D = true) : (x_nm c, x_nm D) ∈ exN := by
  rcases (show c = 3 ∨ c = 4 ∨ c = 5 ∨ c = 6 ∨ c = 7 ∨ c = 8 by omega) with rfl | rfl | rfl | rfl | rfl | rfl <;> rcases (show D = 4 ∨ D = 5 ∨ D = 6 ∨ D = 7 ∨ D = 8 by omega) with rfl | rfl | rfl | rfl | rfl <;>
    first | exact absurd (by decide) hn | exact List.contains_iff_mem.mp (by decide +kernel)
theorem x_nmOk {c : Nat} (h : 3 ≤ c ∧ c ≤ 8) : (!((withoutBrackets (x_nm c)).length == 1) && (packageOf (x_nm c) == "") && decide ((dotted (x_nm c)).toList.length ≤ 15)) = true := by
  rcases (show c = 3 ∨ c = 4 ∨ c = 5 ∨ c = 6 ∨ c = 7 ∨ c = 8 by omega) with rfl | rfl | rfl | rfl | rfl | rfl <;> decide +kernel
theorem tcast_some {i D : Nat} {kO kt : gR} (hD : 4 ≤ D ∧ D ≤ 8) (h : tcast μ i D kO kt = some r) : ∃ (c : Nat) (fs : List Value), (3 ≤ c ∧ c ≤ 8) ∧ μ.2 i = some (.inr (c, fs)) ∧ ((x_sub c D = true ∧ kt = some r) ∨ (¬ x_sub c D = true ∧ kO = some r)) := by
  obtain ⟨c, fs, he, hk⟩ := gkc_some h
  split at hk
  · rename_i hs
    refine ⟨c, fs, ?_, he, Or.inl ⟨hs, hk⟩⟩
    have hs := x_subP hs
    omega
  · rename_i hs
    split at hk
    · rename_i hc
      exact ⟨c, fs, hc, he, Or.inr ⟨hs, hk⟩⟩
    · cases hk
theorem r_tcast (X : gX p m c cc nL s args own Γ A) (Y : gY l s A c hh) (h : gWd Γ A nz ad μ s.heap H locs) {i D idx : Nat} {kO kt : gR} (hD : 4 ≤ D ∧ D ≤ 8) (hr : x_R R ls nL (.ref (ad i) :: rest)) (hc : cells + 3 ≤ R.cells ∧ slots + (1000 + 10) ≤ R.slots) (hiO : x_hit own "java/lang/ClassCastException" pc hO hh) (hl : Cond.classLink own idx (x_nm D) ∈ lw_all) (d : decode cc pc = .ok (.checkcast idx, 3)) (hf : tcast μ i D kO kt = some r)
    (kkO : kO = some r → xW p l e R s m args below meth c Q Γ A nz ad μ hO ls (cells + 3) (slots + (1000 + 10)))
    (kk : ∀ (k : Nat) (fs : List Value), μ.2 i = some (.inr (k, fs)) → x_sub k D = true → kt = some r → W p l e R s m args below meth c H locs cells slots Q (F0 m (pc + 3) ls (.ref (ad i) :: rest))) : W p l e R s m args below meth c H locs cells slots Q (F0 m pc ls (.ref (ad i) :: rest)) := by
  obtain ⟨k, fs, hk, he, hf⟩ := tcast_some hD hf
  obtain ⟨T1, N1, hg1⟩ := x_gcl hk
  obtain ⟨T2, N2, hg2⟩ := x_gcl (c := D) ⟨by omega, hD.2⟩
  obtain ⟨cell, hcell, hobj, hcl⟩ := h.recv X hg1 he
  obtain ⟨cT, hcT, -⟩ := Cond.classLink_spec X.hown (X.hts _ hl) {} rfl
  rcases hf with ⟨hs, hf⟩ | ⟨hs, hf⟩
  · have hasg : s.vm.assignable cell.cls cT = true := by
      rcases x_subP hs with rfl | ⟨rfl, rfl⟩ | ⟨rfl, rfl⟩
      · cases hcl.symm.trans hcT
        exact Vm.assignable_self _ _
      · exact vb_asgC (X.2.1.2.1 14 _ rfl) _ _ hcT hcl
      · exact vb_asgC (X.2.1.2.1 15 _ rfl) _ _ hcT hcl
    intro T hT S
    obtain ⟨vm', S', st⟩ := S.checkcastYes X.hx X.hown (X.hts _ hl) (by rw [hT]; exact hcell) hobj hcT hasg (g := F0 m pc ls (.ref (ad i) :: rest)) rfl rfl (by rw [X.hb]; exact d)
    obtain ⟨t, a1, b1⟩ := kk k fs he hs hf (T.setVm vm') hT S'
    exact ⟨t, st t a1, b1⟩
  · have hasg : s.vm.assignable cell.cls cT = false := Y.2.1.2.1 _ (x_no hk hD hs) _ _ hcl hcT
    obtain ⟨ka, ha1, -⟩ := x_cls hcl
    obtain ⟨kb, hb1, -⟩ := x_cls hcT
    intro T hT S
    obtain ⟨vm', ks', kt', hm, hks, hkt, hal, S', st⟩ := x_castS S X.hx X.hown (X.hts _ hl) (by rw [hT]; exact hcell) hobj ha1 hb1 hcT hasg (g := F0 m pc ls (.ref (ad i) :: rest)) rfl rfl (by rw [X.hb]; exact d)
    obtain ⟨ka', g1, hka⟩ := x_ownOf (vm := vm') (by rw [hal.findClass]; exact hcl) (x_nmOk hk)
    obtain ⟨kb', g2, hkb⟩ := x_ownOf (vm := vm') (by rw [hal.findClass]; exact hcT) (x_nmOk (c := D) ⟨by omega, hD.2⟩)
    cases hks.symm.trans g1
    cases hkt.symm.trans g2
    have hmr : modulesRight_1 (T.setVm vm') = true := by
      have := Y.2.1.mods
      unfold modulesRight_1 at this ⊢
      rw [show (T.setVm vm').vm.modules = s.vm.modules from hm]
      exact this
    have hlen := x_castText (s := T.setVm vm') (a := ks') (b := kt') hka hkb hmr
    have hB : (stringBytes (stringToUtf16 (Op.checkcast.message vm' ks' kt'))).size ≤ 1000 := by
      have h1 := stringBytes_size_le (stringToUtf16 (Op.checkcast.message vm' ks' kt'))
      have h2 := utf16_size_le (Op.checkcast.message vm' ks' kt')
      have hlen : (Op.checkcast.message vm' ks' kt').toList.length ≤ 250 := hlen
      omega
    obtain ⟨t, a1, b1⟩ := x_thrM X Y h (text := Op.checkcast.message vm' ks' kt') (B := 1000) x_atCas (by decide +kernel) x_castMod hB (by omega) hr hc hiO (kkO hf) (T.setVm vm') hT S'
    exact ⟨t, st t a1, b1⟩
/-- the call of a method that the receiver's class has of a class above it, linked there -/
theorem x_cwC {C : String} {y : MethodName} {bytes : ByteArray} {maxL index mc ms : Nat} {ret : Option FieldType} {rm : Room} (n : Nat) (ht : ∀ w ∈ lw_all, w.before args s = true) (hl : Cond.methodLink own index y ∈ lw_all) (hi : Cond.instanceMethod y ∈ lw_all) (hs : Cond.selects C y y ∈ lw_all) (hini : Cond.initialized y.cls ∈ lw_all) (hcode : Cond.code y bytes maxL ret ∈ lw_all) (hrc : rm.cells = mc) (hrs : rm.slots = ms)
    (hd : y.cls ≠ "java/lang/invoke/MethodHandle" ∧ y.cls ≠ "java/lang/invoke/VarHandle" ∧ (parseMethodDescriptor y.desc).map (fun d => d.parameters.length) = some n) (hR : rm.frames + 1 ≤ R.frames ∧ 8 + (maxL + 11) + rm.locals ≤ R.locals) : CallW R s args own C index y bytes maxL ret (ws_ y bytes maxL ret) rm mc ms n :=
  ⟨callB_of n ht (lw_meth hcode) rfl hrc hrs (ht _ hini) (ht _ hl) hd hR, ht _ hi, ht _ hs⟩
end GCAST
