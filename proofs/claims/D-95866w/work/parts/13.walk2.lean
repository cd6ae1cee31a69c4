/-! MY ROWS 4: stores of null, new cells, arraycopy, calls, returns -/
set_option maxRecDepth 100000
section GROW2
variable {p : Program} {l : Launch} {e : Env} {R : Room} {s : State} {m : MethodId} {args : Array Value} {below : List Frame} {meth : Method} {c : Code} {H : Heap} {locs : List Loc} {cells slots : Nat} {Q : State → Prop}
variable {cc : ByteArray} {pc nL : Nat} {ls : Array Slot} {rest : List Value} {own : String} {Γ : gG} {A : Nat → Prop} {nz : Nat} {ad : Nat → Nat} {μ : gM} {r : Option Value × gM}
theorem g_aastN0 {T : State} (X : Stand p l e R s m args below meth c T locs cells slots) (hexec : p.tables.exec = Jvm.exec) {a : Addr} {cell : Cell} {t : FieldType} {j : Int32} (htr : t.isReference = true) (hcell : T.heap[a]? = some cell) (harr : s.isArrayOf cell t) (hknown : cell.vm ≠ .unknown)
    (hin : ¬ (j < 0 ∨ cell.slots.size ≤ j.toNatClampNeg))
    {g : JFrame} (hg : g.method = m) {rest : List Value} (hstack : g.stack = .null :: .int j :: .ref a :: rest) (hdg : decode c.code g.pc = .ok (.aastore, 1)) :
    Stand p l e R s m args below meth c (T.setCell a (cell.setSlot j.toNatClampNeg .null)) (locs ++ [⟨a, j.toNatClampNeg⟩]) cells slots ∧
      ∀ target, Steps p.tables e below ((T.setCell a (cell.setSlot j.toNatClampNeg .null)).setTop { g with pc := g.pc + 1, stack := rest }) target → Steps p.tables e below (T.setTop g) target := by
  have hT := State.isArrayOf_alike X.warmed.alike harr
  have hfit : T.fitsSlot cell.cls cell.vm j.toNatClampNeg .null = true := by
    obtain ⟨hobj, k, hk, comp, hkind⟩ := hT
    cases hvm : cell.vm <;> first | exact absurd hvm (hobj _) | (cases t <;> first | (cases htr; done) | simp [State.fitsSlot, State.slotType?, hk, hkind, fits])
  refine ⟨X.stored hcell _ _, fun target hrest => ?_⟩
  subst hg
  jvm_step X.here [hexec, hdg]
  refine aastore.wp_of_null (c := cell) (t := t) X.here.top hstack hcell hT hin hknown (Nat.not_le.mp fun q => hin (Or.inr q)) hfit ?_
  intro acts
  rw [afterInstr_ok]
  exact hrest
theorem r_astN (X : gX p m c cc nL s args own Γ A) (h : gWd Γ A nz ad μ s.heap H locs) {t i : Nat} {ty : FieldType} {x : Int32} {kt : gM → gR} (ht : (gTy Γ.2)[t]? = some (Γ.2 t, ty)) (hty : ty.isReference = true) (d : decode cc pc = .ok (.aastore, 1)) (hf : gsQ μ t i x none kt = some r)
    (kk : ∀ (μ1 : gM) (H1 : Heap) (locs1 : List Loc), kt μ1 = some r → gWd Γ A nz ad μ1 s.heap H1 locs1 → W p l e R s m args below meth c H1 locs1 cells slots Q (F0 m (pc + 1) ls rest)) : W p l e R s m args below meth c H locs cells slots Q (F0 m pc ls (.null :: .int x :: .ref (ad i) :: rest)) := by
  obtain ⟨n, f, he, hin, hkt⟩ := gsQ_some hf
  obtain ⟨q, hq⟩ := h.at he
  intro T hT X'
  have hcell : H[ad i]? = some (vp_cell (Γ.2 t) (n, gx ad (.inr (.inr (.inr (.inr f)))))) := h.P q _ hq
  have hT' : T.heap[ad i]? = some (vp_cell (Γ.2 t) (n, gx ad (.inr (.inr (.inr (.inr f)))))) := by rw [hT]; exact hcell
  obtain ⟨X2, st⟩ := g_aastN0 X' X.hx hty hT' ((X.K.2 t _ ht).1 n (fun j => va_rf ((f j).map ad))) (fun h => by cases h) (by show ¬ (x < 0 ∨ (arrV _ _ _).slots.size ≤ _); rw [arrV_size]; exact hin) (g := F0 m pc ls (.null :: .int x :: .ref (ad i) :: rest)) rfl rfl (by rw [X.hb]; exact d)
  have hlt : ad i < T.heap.size := (Array.getElem?_eq_some_iff.mp hT').1
  have oq : ∀ q : Nat, q ≠ ad i → (T.setCell (ad i) ((vp_cell (Γ.2 t) (n, gx ad (.inr (.inr (.inr (.inr f)))))).setSlot x.toNatClampNeg .null)).heap[q]? = H[q]? := fun q hq => by rw [heapAt_setCell_ne _ (Ne.symm hq), hT]
  obtain ⟨t', a1, b1⟩ := kk _ _ _ hkt (h.set (q := q) he hq (x := .inl (Γ.2 t, n, .inr (.inr (.inr (.inr (va_up (fun j => (f j).map ad) x.toNatClampNeg none)))))) (by
      show _ = Sum.inl (Γ.2 t, n, Sum.inr (Sum.inr (Sum.inr (Sum.inr _))))
      rw [gsto]
      rfl) (gcl_sto (h.1 i _ he).2.1 (fun j hj => by cases hj)) (h.P.set h.D hq (by
      show (T.setCell (ad i) _).heap[ad i]? = some (vp_cell _ _)
      rw [heapAt_setCell_self _ hlt]
      rw [show vp_cell (Γ.2 t) (n, gx ad (.inr (.inr (.inr (.inr f))))) = arrV (Γ.2 t) n (fun j => va_rf ((f j).map ad)) from rfl, vp_cell_q, arrV_store]
      congr 2
      funext j
      by_cases hj : j = x.toNatClampNeg
      · subst hj
        simp [updV, va_up, va_rf]
      · simp [updV, va_up, hj]) oq) (h.2.2.1.put (by rw [size_setCell, hT]) oq (h.D.2 q _ hq))) (T.setCell (ad i) ((vp_cell (Γ.2 t) (n, gx ad (.inr (.inr (.inr (.inr f)))))).setSlot x.toNatClampNeg .null)) rfl X2
  exact ⟨t', st t' a1, b1⟩
/-! new cells: the number is the memory's next; addresses of the old ones stay -/
/-- a new array of ints (bytes, booleans) -/
def gna (μ : gM) (t lim : Nat) (n : Int32) (kt : gM → Nat → gR) : gR := if n < 0 ∨ lim < n.toNatClampNeg then none else kt (gnew μ (.inl (t, n.toNatClampNeg, .inl (fun _ => 0)))) μ.1
def gnq (μ : gM) (t lim : Nat) (n : Int32) (kt : gM → Nat → gR) : gR := if n < 0 ∨ lim < n.toNatClampNeg then none else kt (gnew μ (.inl (t, n.toNatClampNeg, .inr (.inr (.inr (.inr (fun _ => none))))))) μ.1
def gno (μ : gM) (c : Nat) (fs : List Value) (kt : gM → Nat → gR) : gR := kt (gnew μ (.inr (c, fs))) μ.1
theorem gna_some {t lim : Nat} {n : Int32} {kt : gM → Nat → gR} (h : gna μ t lim n kt = some r) : ¬ n < 0 ∧ n.toNatClampNeg ≤ lim ∧ kt (gnew μ (.inl (t, n.toNatClampNeg, .inl (fun _ => 0)))) μ.1 = some r := by
  unfold gna at h
  split at h
  · cases h
  · rename_i hn
    simp only [not_or, Nat.not_lt] at hn
    exact ⟨hn.1, hn.2, h⟩
theorem gnq_some {t lim : Nat} {n : Int32} {kt : gM → Nat → gR} (h : gnq μ t lim n kt = some r) : ¬ n < 0 ∧ n.toNatClampNeg ≤ lim ∧ kt (gnew μ (.inl (t, n.toNatClampNeg, .inr (.inr (.inr (.inr (fun _ => none))))))) μ.1 = some r := by
  unfold gnq at h
  split at h
  · cases h
  · rename_i hn
    simp only [not_or, Nat.not_lt] at hn
    exact ⟨hn.1, hn.2, h⟩
theorem r_newa (X : gX p m c cc nL s args own Γ A) (h : gWd Γ A nz ad μ s.heap H locs) {t : Nat} {lim : Nat} {n : Int32} {atype : ArrayType} {ty : FieldType} {kt : gM → Nat → gR} (hat : (Cond.arrayClass (newarray.typeOf atype)) ∈ lw_all) (hty : newarray.typeOf atype = ty) (ht : (gTy Γ.2)[t]? = some (Γ.2 t, ty)) (hp : va_RA s (Γ.2 t) ty = (s.vm.findClass ("[" ++ ty.toString) = some (Γ.2 t))) (hp2 : ∀ cA : ClassId, va_RA s cA ty = (s.vm.findClass ("[" ++ ty.toString) = some cA)) (hdv : defaultValue ty = .int 0) (hcb : componentBytes ty ≤ 8) (hcells : cells + 1 ≤ R.cells) (hlim : lim ≤ 100000) (hslots : slots + lim ≤ R.slots) (d : decode cc pc = .ok (.newarray atype, 2)) (hf : gna μ t lim n kt = some r)
    (kk : ∀ (ad1 : Nat → Nat) (i : Nat) (μ1 : gM) (H1 : Heap) (locs1 : List Loc), kt μ1 i = some r → (∀ j, j < μ.1 → ad1 j = ad j) → gWd Γ A nz ad1 μ1 s.heap H1 locs1 → W p l e R s m args below meth c H1 locs1 (cells + 1) (slots + lim) Q (F0 m (pc + 2) ls (.ref (ad1 i) :: rest))) : W p l e R s m args below meth c H locs cells slots Q (F0 m pc ls (.int n :: rest)) := by
  obtain ⟨h1, h2, hkt⟩ := gna_some hf
  refine va_newa (a0 := (n.toNatClampNeg, .inl (fun _ => 0))) X.hx X.hb (X.hts _ hat) hty X.K h.P h.D h.2.2.1 X.2.2 (fun cA => by rw [hdv]; rfl) h1 rfl (Nat.le_trans (Nat.mul_le_mul (Nat.le_trans h2 hlim) hcb) (by decide)) hcells (Nat.le_trans (Nat.add_le_add_left h2 slots) hslots) d (fun q cA H1 hK hP hD hS => ?_)
  have e1 : cA = Γ.2 t := by
    have e2 := (hK.2 (gTy Γ.2).length (cA, ty) (by rw [List.getElem?_append_right (Nat.le_refl _), Nat.sub_self]; rfl)).2
    have e3 := (X.K.2 t _ ht).2
    rw [hp2] at e2
    dsimp only at e3
    rw [hp] at e3
    exact Option.some.inj (e2.symm.trans e3)
  subst e1
  refine W.widen (Nat.le_refl _) (Nat.add_le_add_left h2 slots) (W.eq (g2 := F0 m (pc + 2) ls (.ref (va_up ad μ.1 q μ.1) :: rest)) (by rw [gu_self]) ?_)
  exact kk _ _ _ H1 locs hkt (fun j hj => gu_ne (Nat.ne_of_lt hj)) (h.push rfl trivial hP hD hS)
theorem r_newI (X : gX p m c cc nL s args own Γ A) (h : gWd Γ A nz ad μ s.heap H locs) {lim : Nat} {n : Int32} {kt : gM → Nat → gR} (hcells : cells + 1 ≤ R.cells) (hlim : lim ≤ 100000) (hslots : slots + lim ≤ R.slots) (d : decode cc pc = .ok (.newarray .int, 2)) (hf : gna μ 0 lim n kt = some r)
    (kk : ∀ (ad1 : Nat → Nat) (i : Nat) (μ1 : gM) (H1 : Heap) (locs1 : List Loc), kt μ1 i = some r → (∀ j, j < μ.1 → ad1 j = ad j) → gWd Γ A nz ad1 μ1 s.heap H1 locs1 → W p l e R s m args below meth c H1 locs1 (cells + 1) (slots + lim) Q (F0 m (pc + 2) ls (.ref (ad1 i) :: rest))) : W p l e R s m args below meth c H locs cells slots Q (F0 m pc ls (.int n :: rest)) :=
  r_newa X h (atype := .int) (ty := .int) q134 rfl rfl rfl (fun _ => rfl) rfl (by decide) hcells hlim hslots d hf kk
theorem r_newB (X : gX p m c cc nL s args own Γ A) (h : gWd Γ A nz ad μ s.heap H locs) {lim : Nat} {n : Int32} {kt : gM → Nat → gR} (hcells : cells + 1 ≤ R.cells) (hlim : lim ≤ 100000) (hslots : slots + lim ≤ R.slots) (d : decode cc pc = .ok (.newarray .byte, 2)) (hf : gna μ 1 lim n kt = some r)
    (kk : ∀ (ad1 : Nat → Nat) (i : Nat) (μ1 : gM) (H1 : Heap) (locs1 : List Loc), kt μ1 i = some r → (∀ j, j < μ.1 → ad1 j = ad j) → gWd Γ A nz ad1 μ1 s.heap H1 locs1 → W p l e R s m args below meth c H1 locs1 (cells + 1) (slots + lim) Q (F0 m (pc + 2) ls (.ref (ad1 i) :: rest))) : W p l e R s m args below meth c H locs cells slots Q (F0 m pc ls (.int n :: rest)) :=
  r_newa X h (atype := .byte) (ty := .byte) q336 rfl rfl rfl (fun _ => rfl) rfl (by decide) hcells hlim hslots d hf kk
theorem r_newZ (X : gX p m c cc nL s args own Γ A) (h : gWd Γ A nz ad μ s.heap H locs) {lim : Nat} {n : Int32} {kt : gM → Nat → gR} (hcells : cells + 1 ≤ R.cells) (hlim : lim ≤ 100000) (hslots : slots + lim ≤ R.slots) (d : decode cc pc = .ok (.newarray .boolean, 2)) (hf : gna μ 2 lim n kt = some r)
    (kk : ∀ (ad1 : Nat → Nat) (i : Nat) (μ1 : gM) (H1 : Heap) (locs1 : List Loc), kt μ1 i = some r → (∀ j, j < μ.1 → ad1 j = ad j) → gWd Γ A nz ad1 μ1 s.heap H1 locs1 → W p l e R s m args below meth c H1 locs1 (cells + 1) (slots + lim) Q (F0 m (pc + 2) ls (.ref (ad1 i) :: rest))) : W p l e R s m args below meth c H locs cells slots Q (F0 m pc ls (.int n :: rest)) :=
  r_newa X h (atype := .boolean) (ty := .boolean) q1168 rfl rfl rfl (fun _ => rfl) rfl (by decide) hcells hlim hslots d hf kk
theorem r_newO (X : gX p m c cc nL s args own Γ A) (h : gWd Γ A nz ad μ s.heap H locs) {ci N idx : Nat} {C : String} {T : u_T} {ty : Nat → FieldType} {fs : List Value} {kt : gM → Nat → gR} (hc : gCl[ci]? = some (C, T, N)) (hin : ∀ w ∈ u_ws C T N, w ∈ lw_all) (hty : ∀ k, k < N → parseFieldDescriptor (T k).2.2.1 = some (ty k)) (hcl : Cond.classLink own idx C ∈ lw_all) (hinst : Cond.instantiable C N ∈ lw_all) (hini : Cond.initialized C ∈ lw_all) (hfs : ∀ j, j < N → defaultValue (ty j) = vp_V fs j) (hnr : ∀ v ∈ fs, ∀ j : Nat, v ≠ .ref j) (hcells : cells + 1 ≤ R.cells) (hslots : slots + N ≤ R.slots) (d : decode cc pc = .ok (.new idx, 3)) (hf : gno μ ci fs kt = some r)
    (kk : ∀ (ad1 : Nat → Nat) (i : Nat) (μ1 : gM) (H1 : Heap) (locs1 : List Loc), kt μ1 i = some r → (∀ j, j < μ.1 → ad1 j = ad j) → gWd Γ A nz ad1 μ1 s.heap H1 locs1 → W p l e R s m args below meth c H1 locs1 (cells + 1) (slots + N) Q (F0 m (pc + 3) ls (.ref (ad1 i) :: rest))) : W p l e R s m args below meth c H locs cells slots Q (F0 m pc ls rest) := by
  have e1 : fs.map (gv ad) = fs := by
    conv => rhs; rw [← List.map_id fs]
    refine List.map_congr_left (fun v hv => ?_)
    cases v <;> first | rfl | exact absurd rfl (hnr _ hv _)
  refine va_new (fs := fs) X.hx X.hb X.hts hin ty hty X.hown (X.hts _ hcl) (X.hts _ hinst) (X.hts _ hini) X.K h.P h.D h.2.2.1 X.2.2 hc hfs hcells hslots d (fun q H1 hP hD hS => ?_)
  refine W.eq (g2 := F0 m (pc + 3) ls (.ref (va_up ad μ.1 q μ.1) :: rest)) (by rw [gu_self]) ?_
  exact kk _ _ _ H1 locs hf (fun j hj => gu_ne (Nat.ne_of_lt hj)) (h.push (e := .inr (ci, fs)) (by show Sum.inr (ci, fs) = Sum.inr (ci, _); rw [e1]) (fun v hv j hj => absurd hj (hnr v hv j)) hP hD hS)
theorem r_newQ (X : gX p m c cc nL s args own Γ A) (h : gWd Γ A nz ad μ s.heap H locs) {t idx lim : Nat} {E : String} {n : Int32} {kt : gM → Nat → gR} (ht : (gTy Γ.2)[t]? = some (Γ.2 t, .object E)) (hcl : Cond.classLink own idx E ∈ lw_all) (hao : va_AO E s) (hcells : cells + 1 ≤ R.cells) (hlim : lim ≤ 100000) (hslots : slots + lim ≤ R.slots) (d : decode cc pc = .ok (.anewarray idx, 3)) (hf : gnq μ t lim n kt = some r)
    (kk : ∀ (ad1 : Nat → Nat) (i : Nat) (μ1 : gM) (H1 : Heap) (locs1 : List Loc), kt μ1 i = some r → (∀ j, j < μ.1 → ad1 j = ad j) → gWd Γ A nz ad1 μ1 s.heap H1 locs1 → W p l e R s m args below meth c H1 locs1 (cells + 1) (slots + lim) Q (F0 m (pc + 3) ls (.ref (ad1 i) :: rest))) : W p l e R s m args below meth c H locs cells slots Q (F0 m pc ls (.int n :: rest)) := by
  obtain ⟨h1, h2, hkt⟩ := gnq_some hf
  refine va_newq X.hx X.hb X.hown (X.hts _ hcl) hao X.K h.P h.D h.2.2.1 X.2.2 h1 rfl (by omega) hcells (by omega) d (fun q cA H1 hK hP hD hS => ?_)
  have e1 : cA = Γ.2 t := by
    obtain ⟨-, -, -, -, -, e2⟩ := (hK.2 (gTy Γ.2).length (cA, .object E) (by rw [List.getElem?_append_right (Nat.le_refl _), Nat.sub_self]; rfl)).2
    obtain ⟨-, -, -, -, -, e3⟩ := (X.K.2 t _ ht).2
    exact Option.some.inj (e2.symm.trans e3)
  subst e1
  refine W.widen (Nat.le_refl _) (Nat.add_le_add_left h2 slots) (W.eq (g2 := F0 m (pc + 3) ls (.ref (va_up ad μ.1 q μ.1) :: rest)) (by rw [gu_self]) ?_)
  exact kk _ _ _ H1 locs hkt (fun j hj => gu_ne (Nat.ne_of_lt hj)) (h.push (e := .inl (t, n.toNatClampNeg, .inr (.inr (.inr (.inr (fun _ => none)))))) rfl (fun j k hk => by cases hk) hP hD hS)
theorem r_newA (X : gX p m c cc nL s args own Γ A) (h : gWd Γ A nz ad μ s.heap H locs) {t idx lim : Nat} {ty : FieldType} {n : Int32} {kt : gM → Nat → gR} (ht : (gTy Γ.2)[t]? = some (Γ.2 t, .array ty)) (hcl : Cond.classLink own idx (FieldType.array ty).toString ∈ lw_all) (hao : va_Nw (.arrayOver (.array ty)) s) (hcells : cells + 1 ≤ R.cells) (hlim : lim ≤ 100000) (hslots : slots + lim ≤ R.slots) (d : decode cc pc = .ok (.anewarray idx, 3)) (hf : gnq μ t lim n kt = some r)
    (kk : ∀ (ad1 : Nat → Nat) (i : Nat) (μ1 : gM) (H1 : Heap) (locs1 : List Loc), kt μ1 i = some r → (∀ j, j < μ.1 → ad1 j = ad j) → gWd Γ A nz ad1 μ1 s.heap H1 locs1 → W p l e R s m args below meth c H1 locs1 (cells + 1) (slots + lim) Q (F0 m (pc + 3) ls (.ref (ad1 i) :: rest))) : W p l e R s m args below meth c H locs cells slots Q (F0 m pc ls (.int n :: rest)) := by
  obtain ⟨h1, h2, hkt⟩ := gnq_some hf
  refine W.anewA X.hx X.hb X.hown (X.hts _ hcl) hao rfl d rfl h1 (by omega) hcells (by omega) fun cA kA comp f1 f2 f3 f4 => ?_
  generalize hH1 : H.push ({ cls := cA, slots := Array.replicate n.toNatClampNeg .null, vm := .none } : Cell) = H1
  have z1 : H1.size = H.size + 1 := by rw [← hH1, Array.size_push]
  have e1 : H1[H.size]? = some (arrV cA n.toNatClampNeg (fun _ => .null)) := by rw [← hH1, Array.getElem?_push_size, ← arrV_new]
  have o1 : ∀ q : Nat, q < H.size → H1[q]? = H[q]? := fun q hq => by rw [← hH1, Array.getElem?_push, if_neg (Nat.ne_of_lt hq)]
  have hk : ∀ (k : Nat) (x : Nat × va_E), (gws Γ ad μ)[k]? = some x → H1[x.1]? = H[x.1]? := fun k x hx => o1 x.1 ((h.P k x hx).lt)
  have e2 : cA = Γ.2 t := by
    have e3 : s.vm.findClass ("[" ++ (FieldType.array ty).toString) = some (Γ.2 t) := (X.K.2 t _ ht).2
    exact Option.some.inj (f1.symm.trans e3)
  subst e2
  refine W.widen (Nat.le_refl _) (Nat.add_le_add_left h2 slots) (W.eq (g2 := F0 m (pc + 3) ls (.ref (va_up ad μ.1 H.size μ.1) :: rest)) (by rw [gu_self]) ?_)
  refine kk _ _ _ H1 locs hkt (fun j hj => gu_ne (Nat.ne_of_lt hj)) (h.push (x := .inl (Γ.2 t, n.toNatClampNeg, .inr (.inr (.inr (.inr (fun _ => none)))))) (e := .inl (t, n.toNatClampNeg, .inr (.inr (.inr (.inr (fun _ => none)))))) rfl (fun j k hk => by cases hk) ((h.P.kept hk).app (fun k x hx => ?_)) (h.D.push h.P rfl (X.2.2 _ h.2.2.1.1)) ⟨Nat.le_trans h.2.2.1.1 (by omega), fun x h1 h2 => (o1 x (Nat.lt_of_lt_of_le h1 h.2.2.1.1)).trans (h.2.2.1.2.1 x h1 h2), h.2.2.1.2.2⟩)
  have hz : k < 1 := (List.getElem?_eq_some_iff.mp hx).1
  rw [show k = 0 by omega] at hx
  cases hx
  show H1[H.size]? = some (vp_cell _ _)
  rw [vp_cell_q]
  exact e1
/-- System.arraycopy of ints -/
theorem r_copy (X : gX p m c cc nL s args own Γ A) (h : gWd Γ A nz ad μ s.heap H locs) {i j idx : Nat} {sp dp n : Int32} {kt : gM → gR} (hls : ls.size = nL) (hl : Cond.methodLink own idx arraycopyName ∈ lw_all) (hfr : 1 ≤ R.frames) (hlo : (rest.map fun v => v.category).sum + (nativeFrameWords "java/lang/System" "arraycopy" 5 + 11) ≤ R.locals) (d : decode cc pc = .ok (.invokestatic idx, 3)) (hf : gcp μ i sp j dp n kt = some r)
    (kk : ∀ (μ1 : gM) (H1 : Heap) (locs1 : List Loc), kt μ1 = some r → gWd Γ A nz ad μ1 s.heap H1 locs1 → W p l e R s m args below meth c H1 locs1 cells slots Q (F0 m (pc + 3) ls rest)) : W p l e R s m args below meth c H locs cells slots Q (F0 m pc ls (.int n :: .int dp :: .ref (ad j) :: .int sp :: .ref (ad i) :: rest)) := by
  obtain ⟨n0, n1, f, g, he, he1, h1, h2, h3, h4, h5, hkt⟩ := gcp_some hf
  obtain ⟨q0, hq0⟩ := h.at he
  obtain ⟨q1, hq1⟩ := h.at he1
  exact va_copyi X.hx X.hb (X.hml.trans hls.symm) X.hown (X.hts _ hl) (X.hts _ q419) (X.hts _ q418) (X.hts _ q93) X.K h.P h.D h.2.2.1 q0 q1 0 0 hq0 hq1 rfl rfl rfl h1 h2 h3 h4 h5 (fun _ _ => rfl) hfr hlo d (fun H1 locs1 hP hD hS => kk _ H1 locs1 hkt (h.set he1 hq1 rfl trivial hP hS))
/-- ldc_w of an int -/
theorem r_ldcw (X : gX p m c cc nL s args own Γ A) {idx : Nat} {v : Int32} (hl : Cond.constant own idx v ∈ lw_all) (d : decode cc pc = .ok (.ldc_w idx, 3))
    (kk : W p l e R s m args below meth c H locs cells slots Q (F0 m (pc + 3) ls (.int v :: rest))) : W p l e R s m args below meth c H locs cells slots Q (F0 m pc ls rest) := by
  intro T hT X'
  obtain ⟨t, a, b⟩ := kk T hT X'
  exact ⟨t, va_ldcwI X' X.hx X.hown (X.hts _ hl) (g := F0 m pc ls rest) rfl (by rw [X.hb]; exact d) t a, b⟩
/-! contracts -/
def gPc (Γ : gG) (ad : Nat → Nat) (μ : gM) (sz : Nat) (U : State) : Prop := U.heap.size = sz ∧ gK Γ U ∧ gWd Γ (fun _ => True) 0 ad μ U.heap U.heap []
/-- the end of a method that makes no cell of the memory -/
def gQ0 (Γ : gG) (ad : Nat → Nat) (nz : Nat) (res : Option Value × gM) (A : Nat → Prop) : Array Value → State → Outcome → State → Prop := fun _ st oc t => oc = .returned (res.1.map (gv ad)) ∧ gWd Γ A nz ad res.2 st.heap t.heap []
/-- the end of one that may: the old numbers (below n0) keep their addresses -/
def gQ1 (Γ : gG) (ad : Nat → Nat) (nz : Nat) (res : Option Value × gM) (A : Nat → Prop) : Array Value → State → Outcome → State → Prop := fun _ st oc t => ∃ ad' : Nat → Nat, (∀ i, i < nz → ad' i = ad i) ∧ oc = .returned (res.1.map (gv ad')) ∧ gWd Γ A nz ad' res.2 st.heap t.heap []
/-- the contract: from any heap that holds μ the method answers and leaves res -/
def gMt0 (l : Launch) (Γ : gG) (y : MethodName) (ws : List Cond) (rm : Room) (mc ms : Nat) (ad : Nat → Nat) (μ : gM) (As : List Value) (res : Option Value × gM) : Prop := ∀ sz : Nat, Met l y ws rm (va_Pc As (gPc Γ ad μ sz)) (gQ0 Γ ad μ.1 res (gA ad μ sz)) mc ms (gA ad μ sz)
def gMt1 (l : Launch) (Γ : gG) (y : MethodName) (ws : List Cond) (rm : Room) (mc ms : Nat) (ad : Nat → Nat) (μ : gM) (As : List Value) (res : Option Value × gM) : Prop := ∀ sz : Nat, Met l y ws rm (va_Pc As (gPc Γ ad μ sz)) (gQ1 Γ ad μ.1 res (gA ad μ sz)) mc ms (gA ad μ sz)
theorem gPc.blind {Γ : gG} {ad : Nat → Nat} {μ : gM} {sz : Nat} {av : List Value} : FrameBlind (va_Pc av (gPc Γ ad μ sz)) := fun a U g mk h => by
  obtain ⟨h0, h1, h2, h3⟩ := h
  exact ⟨h0, h1, gK.warm (U := U.calling g mk a) (show U.WarmedH (U.calling g mk a).vm from State.WarmedH.refl U) h2, h3⟩
theorem gPc.pre {av : List Value} (X : gX p m c cc nL s args own Γ A) (h : gWd Γ A nz ad μ s.heap H locs) : ∀ U : State, U.heap = H → s.WarmedH U.vm → va_Pc av (gPc Γ ad μ H.size) av.toArray U := fun U hU hW => ⟨rfl, by rw [hU], gK.warm hW X.2.1, by rw [hU]; exact h.top⟩
/-- behind a call -/
theorem r_back0 {mc ms : Nat} {st0 : List Value} {a : Array Value} {res : Option Value × gM} (X : gX p m c cc nL s args own Γ A) (h : gWd Γ A nz ad μ s.heap H locs) (hr : va_Run p l e R s m args below meth c H locs cells slots mc ms (F0 m pc ls st0) rest (gQ0 Γ ad μ.1 res (gA ad μ H.size) a) (gA ad μ H.size))
    (kk : ∀ (H1 : Heap) (locs1 : List Loc), gWd Γ A nz ad res.2 s.heap H1 locs1 → W p l e R s m args below meth c H1 locs1 (cells + mc) (slots + ms) Q (F0 m (pc + 3) ls ((res.1.map (gv ad)).toList ++ rest))) : W p l e R s m args below meth c H locs cells slots Q (F0 m pc ls st0) := by
  intro T hT X'
  obtain ⟨v, st₀, t, T', L, h0, X2, hL, e1, e2, ⟨hv, hw⟩, st⟩ := hr T hT X'
  cases hv
  have hF := h.free X.2.2
  rw [h0] at hw
  have hS : va_S A s.heap T'.heap (locs ++ L) := by
    have hz := hw.2.2.1
    rw [← e1] at hz
    refine ⟨Nat.le_trans h.2.2.1.1 hz.1, fun q h1 h2 => ?_, fun q hq => ?_⟩
    · rw [hz.2.1 q (Nat.lt_of_lt_of_le h1 h.2.2.1.1) (fun z => h2 (hF q z))]
      exact h.2.2.1.2.1 q h1 h2
    · rcases List.mem_append.mp hq with h1 | h1
      · exact h.2.2.1.2.2 q h1
      · exact hF _ (hL q h1)
  obtain ⟨t2, a1, b1⟩ := kk T'.heap (locs ++ L) (gWd.back (by rw [e1]; exact hw) h.2.2.2 hF hS) T' rfl X2
  exact ⟨t2, st t2 a1, b1⟩
theorem r_back1 {mc ms : Nat} {st0 : List Value} {a : Array Value} {res : Option Value × gM} (X : gX p m c cc nL s args own Γ A) (h : gWd Γ A nz ad μ s.heap H locs) (hr : va_Run p l e R s m args below meth c H locs cells slots mc ms (F0 m pc ls st0) rest (gQ1 Γ ad μ.1 res (gA ad μ H.size) a) (gA ad μ H.size))
    (kk : ∀ (ad1 : Nat → Nat) (H1 : Heap) (locs1 : List Loc), (∀ i, i < μ.1 → ad1 i = ad i) → gWd Γ A nz ad1 res.2 s.heap H1 locs1 → W p l e R s m args below meth c H1 locs1 (cells + mc) (slots + ms) Q (F0 m (pc + 3) ls ((res.1.map (gv ad1)).toList ++ rest))) : W p l e R s m args below meth c H locs cells slots Q (F0 m pc ls st0) := by
  intro T hT X'
  obtain ⟨v, st₀, t, T', L, h0, X2, hL, e1, e2, ⟨ad1, hag, hv, hw⟩, st⟩ := hr T hT X'
  cases hv
  have hF := h.free X.2.2
  rw [h0] at hw
  have hS : va_S A s.heap T'.heap (locs ++ L) := by
    have hz := hw.2.2.1
    rw [← e1] at hz
    refine ⟨Nat.le_trans h.2.2.1.1 hz.1, fun q h1 h2 => ?_, fun q hq => ?_⟩
    · rw [hz.2.1 q (Nat.lt_of_lt_of_le h1 h.2.2.1.1) (fun z => h2 (hF q z))]
      exact h.2.2.1.2.1 q h1 h2
    · rcases List.mem_append.mp hq with h1 | h1
      · exact h.2.2.1.2.2 q h1
      · exact hF _ (hL q h1)
  obtain ⟨t2, a1, b1⟩ := kk ad1 T'.heap (locs ++ L) hag (gWd.back (by rw [e1]; exact hw) h.2.2.2 hF hS) T' rfl X2
  exact ⟨t2, st t2 a1, b1⟩
theorem gWd.recv (X : gX p m c cc nL s args own Γ A) (h : gWd Γ A nz ad μ s.heap H locs) {i ci N : Nat} {C : String} {T : u_T} {fs : List Value} (hc : gCl[ci]? = some (C, T, N)) (he : μ.2 i = some (.inr (ci, fs))) : ∃ cell : Cell, H[ad i]? = some cell ∧ cell.vm.isStatics = false ∧ s.vm.findClass C = some cell.cls := by
  obtain ⟨q, hq⟩ := h.at he
  exact va_recv X.K h.P hc hq
end GROW2
