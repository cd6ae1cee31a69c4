/-! MY ROWS 12: from the fault to the handler -/
section GTHROW
variable {p : Program} {l : Launch} {e : Env} {R : Room} {s : State} {m : MethodId} {args : Array Value} {below : List Frame} {meth : Method} {c : Code} {H : Heap} {locs : List Loc} {cells slots : Nat} {Q : State → Prop}
variable {cc : ByteArray} {pc nL : Nat} {ls : Array Slot} {rest : List Value} {own : String} {Γ : gG} {A : Nat → Prop} {nz : Nat} {ad : Nat → Nat} {μ : gM} {r : Option Value × gM} {hh : List (Nat × Nat × Nat × Nat)}
/-- what a method with handlers has beside gX -/
def gY (l : Launch) (s : State) (A : Nat → Prop) (c : Code) (hh : List (Nat × Nat × Nat × Nat)) : Prop := l.stackTraces = false ∧ gEx s ∧ (∀ (q : Nat) (cell : Cell), A q → s.heap[q]? = some cell → cell.vm.isStatics = false) ∧ c.exceptionTable.toList.map (fun h => (h.startPc, h.endPc, h.handlerPc, h.catchType)) = hh
/-- entries that are passed -/
def x_pre (own cls : String) (pc : Nat) (qs : List (Nat × Nat × Nat × Nat)) : Prop := ∀ q ∈ qs, (pc < q.1 ∨ q.2.1 ≤ pc) ∨ (q.1 ≤ pc ∧ pc < q.2.1 ∧ q.2.2.2 ≠ 0 ∧ ∃ name : String, Cond.classLink own q.2.2.2 name ∈ lw_all ∧ (cls, name) ∈ exN)
theorem x_pre0 {own cls : String} {pc : Nat} : x_pre own cls pc [] := fun _ h => by cases h
theorem x_preO {own cls : String} {pc : Nat} {q : Nat × Nat × Nat × Nat} {qs : List (Nat × Nat × Nat × Nat)} (h : pc < q.1 ∨ q.2.1 ≤ pc) (t : x_pre own cls pc qs) : x_pre own cls pc (q :: qs) := fun y hy => by
  rcases List.mem_cons.mp hy with rfl | hy
  · exact Or.inl h
  · exact t y hy
theorem x_preM {own cls name : String} {pc : Nat} {q : Nat × Nat × Nat × Nat} {qs : List (Nat × Nat × Nat × Nat)} (h1 : q.1 ≤ pc) (h2 : pc < q.2.1) (h3 : q.2.2.2 ≠ 0) (h4 : Cond.classLink own q.2.2.2 name ∈ lw_all) (h5 : exN.contains (cls, name) = true) (t : x_pre own cls pc qs) : x_pre own cls pc (q :: qs) := fun y hy => by
  rcases List.mem_cons.mp hy with rfl | hy
  · exact Or.inr ⟨h1, h2, h3, name, h4, List.contains_iff_mem.mp h5⟩
  · exact t y hy
/-- the entry that catches: its place, its class -/
def x_hit (own cls : String) (pc hp : Nat) (hh : List (Nat × Nat × Nat × Nat)) : Prop := ∃ (k a b ct : Nat) (name : String), hh[k]? = some (a, b, hp, ct) ∧ a ≤ pc ∧ pc < b ∧ ct ≠ 0 ∧ Cond.classLink own ct name ∈ lw_all ∧ Cond.castable cls name ∈ exD ∧ x_pre own cls pc (hh.take k)
theorem gWd.more {H0 H1 : Heap} {locs1 : List Loc} (h : gWd Γ A nz ad μ H0 H locs) (hA : ∀ q, H0.size ≤ q → A q) (hs : H.size ≤ H1.size) (hk : ∀ a0, a0 < H.size → H1[a0]? = H[a0]?) (hl : ∀ y ∈ locs1, y ∈ locs ∨ H.size ≤ y.base) : gWd Γ A nz ad μ H0 H1 locs1 :=
  ⟨fun i e he => ⟨(h.1 i e he).1, (h.1 i e he).2.1, (h.1 i e he).2.2.1.kept (hk _ (h.1 i e he).2.2.1.lt), (h.1 i e he).2.2.2⟩, h.2.1,
   ⟨Nat.le_trans h.2.2.1.1 hs, fun q h1 h2 => (hk q (Nat.lt_of_lt_of_le h1 h.2.2.1.1)).trans (h.2.2.1.2.1 q h1 h2), fun y hy => by
      rcases hl y hy with h1 | h1
      · exact h.2.2.1.2.2 y h1
      · exact hA _ (Nat.le_trans h.2.2.1.1 h1)⟩, h.2.2.2⟩
/-- the hit, at the method's own table -/
theorem x_find {T : State} (X : gX p m c cc nL s args own Γ A) (Y : gY l s A c hh) (S : Stand p l e R s m args below meth c T locs cells slots) (a : Addr) {cls : String} {hp : Nat} {cell : Cell} (hcell : T.heap[a]? = some cell) (hv : cell.vm = .none) (hcls : s.vm.findClass cls = some cell.cls) (hh1 : x_hit own cls pc hp hh) :
    ∃ vm', Stand p l e R s m args below meth c (T.setVm vm') locs cells slots ∧ ∀ t, Steps p.tables e below ((T.setVm vm').setTop (F0 m hp ls [.ref a])) t → Steps p.tables e below ((T.setTop (F0 m pc ls rest)).pushFrame (.throwing a)) t := by
  obtain ⟨k, a1, b1, ct, name, h1, h2, h3, h4, h5, h6, h7⟩ := hh1
  obtain ⟨-, hE, -, htab⟩ := Y
  have hx : ∃ x, c.exceptionTable.toList[k]? = some x ∧ (x.startPc, x.endPc, x.handlerPc, x.catchType) = (a1, b1, hp, ct) := by
    have := h1
    rw [← htab, List.getElem?_map] at this
    cases hz : c.exceptionTable.toList[k]? with
    | none => rw [hz] at this; cases this
    | some x => rw [hz] at this; exact ⟨x, rfl, Option.some.inj this⟩
  obtain ⟨x, hxk, hxe⟩ := hx
  simp only [Prod.mk.injEq] at hxe
  obtain ⟨e1, e2, e3, e4⟩ := hxe
  have hsplit : c.exceptionTable.toList = c.exceptionTable.toList.take k ++ x :: c.exceptionTable.toList.drop (k + 1) := by
    obtain ⟨hlt, hget⟩ := List.getElem?_eq_some_iff.mp hxk
    rw [← hget, ← List.drop_eq_getElem_cons hlt, List.take_append_drop]
  have hxE : x_E s args own cell.cls pc true x := by
    obtain ⟨c3, cT, w1, w2, w3⟩ := Cond.castable_spec (args := args) (hE.D _ h6)
    cases hcls.symm.trans w1
    exact ⟨by simp [covers, e1, e2, h2, h3], by rw [e4]; exact h4, name, cT, X.hts _ (by rw [e4]; exact h5), w2, w3⟩
  have hpre : ∀ y ∈ c.exceptionTable.toList.take k, covers y pc = false ∨ x_E s args own cell.cls pc false y := by
    intro y hy
    have hq : (y.startPc, y.endPc, y.handlerPc, y.catchType) ∈ hh.take k := by
      rw [← htab, ← List.map_take]
      exact List.mem_map_of_mem hy
    rcases h7 _ hq with h8 | ⟨g1, g2, g3, nm, g4, g5⟩
    · left
      have h8 : pc < y.startPc ∨ y.endPc ≤ pc := h8
      simp only [covers, Bool.and_eq_false_iff, decide_eq_false_iff_not]
      omega
    · right
      obtain ⟨cT, hcT⟩ : ∃ cT, s.vm.findClass nm = some cT := by
        obtain ⟨cT, hcT, -⟩ := Cond.classLink_spec X.hown (X.hts _ g4) {} rfl
        exact ⟨cT, hcT⟩
      have g1 : y.startPc ≤ pc := g1
      have g2 : pc < y.endPc := g2
      exact ⟨by simp [covers, g1, g2], g3, nm, cT, X.hts _ g4, hcT, hE.2.1 _ g5 _ _ hcls hcT⟩
  obtain ⟨vm', S', st⟩ := x_caught S a (g := F0 m pc ls rest) rfl X.hown hcell (by rw [hv]; rfl) (Vm.classAt_of_findClass hcls) _ x _ hsplit hxE hpre
  refine ⟨vm', S', fun t ht => st t ?_⟩
  show Steps p.tables e below ((T.setVm vm').setTop { F0 m pc ls rest with pc := x.handlerPc, stack := [.ref a] }) t
  rw [e3]
  exact ht
/-- room for one exception -/
def x_R (R : Room) (ls : Array Slot) (nL : Nat) (rest : List Value) : Prop := ls.size = nL ∧ (rest.map fun v => v.category).sum ≤ 8 ∧ 9 ≤ R.frames ∧ 10248 ≤ R.locals
theorem x_thrM (X : gX p m c cc nL s args own Γ A) (Y : gY l s A c hh) (h : gWd Γ A nz ad μ s.heap H locs) {cls : String} {names : List String} {text : String} {B hp : Nat} (hat : ∀ a ∈ Bundle.messageArmAtoms cls names, a ∈ x_At) (hf : (Bundle.fit cls && names.all Bundle.fit && !(cls == "java/lang/StackOverflowError") && !(cls == "java/lang/OutOfMemoryError") && decide (names.length ≤ 3)) = true)
    (htext : (text == notModelled) = false) (hB : (stringBytes (stringToUtf16 text)).size ≤ B) (hBs : B ≤ 100000) (hr : x_R R ls nL rest) (hc : cells + 3 ≤ R.cells ∧ slots + (B + 10) ≤ R.slots) (hhit : x_hit own cls pc hp hh)
    (kk : ∀ (v : Addr) (H1 : Heap) (locs1 : List Loc), gWd Γ A nz ad μ s.heap H1 locs1 → W p l e R s m args below meth c H1 locs1 (cells + 3) (slots + (B + 10)) Q (F0 m hp ls [.ref v])) : x_N p l e R s m args below meth c H locs cells slots Q (F0 m pc ls rest) (.throwNew cls (some text) none) := by
  intro T hT S
  subst hT
  simp only [Bool.and_eq_true, Bool.not_eq_true', decide_eq_true_eq, List.all_eq_true] at hf
  obtain ⟨⟨⟨⟨f1, f2⟩, f3⟩, f4⟩, f5⟩ := hf
  obtain ⟨r1, r2, r3, r4⟩ := hr
  have hlim : e.platform.arrayLengthLimit = ({} : Platform).arrayLengthLimit := by rw [S.admits.platform]
  have hmax : e.platform.maxHeapBytes = ({} : Platform).maxHeapBytes := by rw [S.admits.platform]
  have htr : e.platform.stackTraces = false := by rw [S.admits.platform]; exact Y.1
  obtain ⟨U, locs', ce, S', hl, hs, hk, hce, hcl, hv, st⟩ := x_msg S X.hx htr f1 f2 f3 f4 (fun a ha => Y.2.1.at X.hts a (hat a ha)) (fun x hx cell hcell => Y.2.2.1 _ cell (h.2.2.1.2.2 x hx) hcell) htext
    (by rw [hlim]; have : (100000 : Nat) ≤ ({} : Platform).arrayLengthLimit := by decide
        omega) (by rw [hmax]; have : (100000 : Nat) ≤ ({} : Platform).maxHeapBytes := by decide
                   show ¬ _ * 1 > _
                   omega) (g := F0 m pc ls rest) rfl (r1.trans X.hml.symm) x_L0 (by omega) (by show 2 * 0 + (rest.map fun v => v.category).sum + 10240 ≤ _; omega) (by omega) hc.1 (by omega)
  obtain ⟨vm', S2, st2⟩ := x_find (ls := ls) (rest := rest) (pc := pc) X Y S' (T.heap.size + 2) hce hv hcl hhit
  obtain ⟨t, h1, h2⟩ := kk (T.heap.size + 2) U.heap locs' (h.more X.2.2 hs hk hl) (U.setVm vm') rfl (stand_widen S2 (Nat.le_refl _) (by omega))
  refine ⟨t, ?_, h2⟩
  rw [x_push S]
  refine st _ ?_
  have h3 := st2 t h1
  rw [x_push S'] at h3
  exact h3
theorem x_thrN (X : gX p m c cc nL s args own Γ A) (Y : gY l s A c hh) (h : gWd Γ A nz ad μ s.heap H locs) {hp : Nat}
    (hr : x_R R ls nL rest) (hc : cells + 1 ≤ R.cells ∧ slots + 8 ≤ R.slots) (hhit : x_hit own "java/lang/NullPointerException" pc hp hh)
    (kk : ∀ (v : Addr) (H1 : Heap) (locs1 : List Loc), gWd Γ A nz ad μ s.heap H1 locs1 → W p l e R s m args below meth c H1 locs1 (cells + 1) (slots + 8) Q (F0 m hp ls [.ref v])) : x_N p l e R s m args below meth c H locs cells slots Q (F0 m pc ls rest) (.throwNew "java/lang/NullPointerException" none none) := by
  intro T hT S
  subst hT
  obtain ⟨r1, r2, r3, r4⟩ := hr
  have htr : e.platform.stackTraces = false := by rw [S.admits.platform]; exact Y.1
  obtain ⟨U, locs', ce, S', hl, hs, hk, hce, hcl, hv, st⟩ := x_npe S X.hx htr (n := 8) (fun a ha => Y.2.1.at X.hts a (List.mem_append_right _ ha)) (fun x hx cell hcell => Y.2.2.1 _ cell (h.2.2.1.2.2 x hx) hcell)
    (g := F0 m pc ls rest) rfl (r1.trans X.hml.symm) x_L0 (by omega) (by show 2 * 0 + (rest.map fun v => v.category).sum + 10240 ≤ _; omega) hc.1 (by omega)
  obtain ⟨vm', S2, st2⟩ := x_find (ls := ls) (rest := rest) (pc := pc) X Y S' T.heap.size hce hv hcl hhit
  obtain ⟨t, h1, h2⟩ := kk T.heap.size U.heap locs' (h.more X.2.2 hs hk hl) (U.setVm vm') rfl S2
  refine ⟨t, ?_, h2⟩
  rw [x_push S]
  refine st _ ?_
  have h3 := st2 t h1
  rw [x_push S'] at h3
  exact h3
theorem x_atNeg : ∀ a ∈ Bundle.messageArmAtoms "java/lang/NegativeArraySizeException" ["java/lang/RuntimeException", "java/lang/Exception"], a ∈ x_At := fun _ h => List.mem_append_left _ (List.mem_append_left _ (List.mem_append_left _ (List.mem_append_left _ h)))
theorem x_atIdx : ∀ a ∈ Bundle.messageArmAtoms "java/lang/ArrayIndexOutOfBoundsException" ["java/lang/IndexOutOfBoundsException", "java/lang/RuntimeException", "java/lang/Exception"], a ∈ x_At := fun _ h => List.mem_append_left _ (List.mem_append_left _ (List.mem_append_left _ (List.mem_append_right _ h)))
theorem x_atAri : ∀ a ∈ Bundle.messageArmAtoms "java/lang/ArithmeticException" ["java/lang/RuntimeException", "java/lang/Exception"], a ∈ x_At := fun _ h => List.mem_append_left _ (List.mem_append_left _ (List.mem_append_right _ h))
theorem x_atCas : ∀ a ∈ Bundle.messageArmAtoms "java/lang/ClassCastException" ["java/lang/RuntimeException", "java/lang/Exception"], a ∈ x_At := fun _ h => List.mem_append_left _ (List.mem_append_right _ h)
end GTHROW
