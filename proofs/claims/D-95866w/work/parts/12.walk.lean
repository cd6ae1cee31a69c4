/-! MY ROWS 3: a row for each instruction that touches the memory -/
set_option maxRecDepth 100000
section GROW
variable {p : Program} {l : Launch} {e : Env} {R : Room} {s : State} {m : MethodId} {args : Array Value} {below : List Frame} {meth : Method} {c : Code} {H : Heap} {locs : List Loc} {cells slots : Nat} {Q : State → Prop}
variable {cc : ByteArray} {pc nL : Nat} {ls : Array Slot} {rest : List Value} {own : String} {Γ : gG} {A : Nat → Prop} {nz : Nat} {ad : Nat → Nat} {μ : gM} {r : Option Value × gM}
theorem gmap_get {ad : Nat → Nat} {fs : List Value} {k : Nat} {v : Value} (h : fs[k]? = some v) : (fs.map (gv ad))[k]? = some (gv ad v) := by rw [List.getElem?_map, h]; rfl
/-- getfield -/
theorem r_get (X : gX p m c cc nL s args own Γ A) (h : gWd Γ A nz ad μ s.heap H locs) {i ci k N idx : Nat} {C ref : String} {T : u_T} {v : Value} (hc : gCl[ci]? = some (C, T, N)) (hin : ∀ w ∈ u_ws C T N, w ∈ lw_all) (hk : k < N) (hl : Cond.fieldLink own idx ref (T k).2.1 (T k).2.2.1 ∈ lw_all) (hs : (T k).1 = ref) (hf : gfld μ i ci k = some v) (d : decode cc pc = .ok (.getfield idx, 3))
    (kk : W p l e R s m args below meth c H locs cells slots Q (F0 m (pc + 3) ls (gv ad v :: rest))) : W p l e R s m args below meth c H locs cells slots Q (F0 m pc ls (.ref (ad i) :: rest)) := by
  obtain ⟨fs, he, hv⟩ := gfld_some hf
  obtain ⟨q, hq⟩ := h.at he
  subst hs
  exact va_get X.hx X.hb X.hts hin X.hown X.K h.P q hq hc k hk (X.hts _ hl) (fun _ h9 => h9) (gmap_get hv) d kk
theorem r_getN (X : gX p m c cc nL s args own Γ A) (h : gWd Γ A nz ad μ s.heap H locs) {i ci k N idx : Nat} {C ref host : String} {T : u_T} {v : Value} (hc : gCl[ci]? = some (C, T, N)) (hin : ∀ w ∈ u_ws C T N, w ∈ lw_all) (hk : k < N) (q : Nat) (hl : gNl[q]? = some (Cond.fieldLinkNest own idx ref (T k).2.1 (T k).2.2.1 host)) (hs : (T k).1 = ref) (hf : gfld μ i ci k = some v) (d : decode cc pc = .ok (.getfield idx, 3))
    (kk : W p l e R s m args below meth c H locs cells slots Q (F0 m (pc + 3) ls (gv ad v :: rest))) : W p l e R s m args below meth c H locs cells slots Q (F0 m pc ls (.ref (ad i) :: rest)) := by
  obtain ⟨fs, he, hv⟩ := gfld_some hf
  obtain ⟨q1, hq⟩ := h.at he
  subst hs
  exact va_getN X.hx X.hb X.hts hin X.hown X.K h.P q1 hq hc k hk (va_Nw.use rfl (X.2.1.2.1 q _ hl)) (fun _ h9 => h9) (gmap_get hv) d kk
theorem r_getI (X : gX p m c cc nL s args own Γ A) (h : gWd Γ A nz ad μ s.heap H locs) {i ci k N idx : Nat} {C ref : String} {T : u_T} {kt : Int32 → gR} (hc : gCl[ci]? = some (C, T, N)) (hin : ∀ w ∈ u_ws C T N, w ∈ lw_all) (hk : k < N) (hl : Cond.fieldLink own idx ref (T k).2.1 (T k).2.2.1 ∈ lw_all) (hs : (T k).1 = ref) (d : decode cc pc = .ok (.getfield idx, 3)) (hf : gI (gfld μ i ci k) kt = some r)
    (kk : ∀ x : Int32, kt x = some r → W p l e R s m args below meth c H locs cells slots Q (F0 m (pc + 3) ls (.int x :: rest))) : W p l e R s m args below meth c H locs cells slots Q (F0 m pc ls (.ref (ad i) :: rest)) := by
  obtain ⟨x, h1, h2⟩ := gI_some hf
  exact r_get X h hc hin hk hl hs h1 d (kk x h2)
theorem r_getJ (X : gX p m c cc nL s args own Γ A) (h : gWd Γ A nz ad μ s.heap H locs) {i ci k N idx : Nat} {C ref : String} {T : u_T} {kt : Int64 → gR} (hc : gCl[ci]? = some (C, T, N)) (hin : ∀ w ∈ u_ws C T N, w ∈ lw_all) (hk : k < N) (hl : Cond.fieldLink own idx ref (T k).2.1 (T k).2.2.1 ∈ lw_all) (hs : (T k).1 = ref) (d : decode cc pc = .ok (.getfield idx, 3)) (hf : gJ (gfld μ i ci k) kt = some r)
    (kk : ∀ x : Int64, kt x = some r → W p l e R s m args below meth c H locs cells slots Q (F0 m (pc + 3) ls (.long x :: rest))) : W p l e R s m args below meth c H locs cells slots Q (F0 m pc ls (.ref (ad i) :: rest)) := by
  obtain ⟨x, h1, h2⟩ := gJ_some hf
  exact r_get X h hc hin hk hl hs h1 d (kk x h2)
theorem r_getP (X : gX p m c cc nL s args own Γ A) (h : gWd Γ A nz ad μ s.heap H locs) {i ci k N idx : Nat} {C ref : String} {T : u_T} {kt : Nat → gR} (hc : gCl[ci]? = some (C, T, N)) (hin : ∀ w ∈ u_ws C T N, w ∈ lw_all) (hk : k < N) (hl : Cond.fieldLink own idx ref (T k).2.1 (T k).2.2.1 ∈ lw_all) (hs : (T k).1 = ref) (d : decode cc pc = .ok (.getfield idx, 3)) (hf : gP (gfld μ i ci k) kt = some r)
    (kk : ∀ x : Nat, kt x = some r → W p l e R s m args below meth c H locs cells slots Q (F0 m (pc + 3) ls (.ref (ad x) :: rest))) : W p l e R s m args below meth c H locs cells slots Q (F0 m pc ls (.ref (ad i) :: rest)) := by
  obtain ⟨x, h1, h2⟩ := gP_some hf
  exact r_get X h hc hin hk hl hs h1 d (kk x h2)
theorem r_getNI (X : gX p m c cc nL s args own Γ A) (h : gWd Γ A nz ad μ s.heap H locs) {i ci k N idx : Nat} {C ref host : String} {T : u_T} {kt : Int32 → gR} (hc : gCl[ci]? = some (C, T, N)) (hin : ∀ w ∈ u_ws C T N, w ∈ lw_all) (hk : k < N) (q : Nat) (hl : gNl[q]? = some (Cond.fieldLinkNest own idx ref (T k).2.1 (T k).2.2.1 host)) (hs : (T k).1 = ref) (d : decode cc pc = .ok (.getfield idx, 3)) (hf : gI (gfld μ i ci k) kt = some r)
    (kk : ∀ x : Int32, kt x = some r → W p l e R s m args below meth c H locs cells slots Q (F0 m (pc + 3) ls (.int x :: rest))) : W p l e R s m args below meth c H locs cells slots Q (F0 m pc ls (.ref (ad i) :: rest)) := by
  obtain ⟨x, h1, h2⟩ := gI_some hf
  exact r_getN X h hc hin hk q hl hs h1 d (kk x h2)
theorem r_getNP (X : gX p m c cc nL s args own Γ A) (h : gWd Γ A nz ad μ s.heap H locs) {i ci k N idx : Nat} {C ref host : String} {T : u_T} {kt : Nat → gR} (hc : gCl[ci]? = some (C, T, N)) (hin : ∀ w ∈ u_ws C T N, w ∈ lw_all) (hk : k < N) (q : Nat) (hl : gNl[q]? = some (Cond.fieldLinkNest own idx ref (T k).2.1 (T k).2.2.1 host)) (hs : (T k).1 = ref) (d : decode cc pc = .ok (.getfield idx, 3)) (hf : gP (gfld μ i ci k) kt = some r)
    (kk : ∀ x : Nat, kt x = some r → W p l e R s m args below meth c H locs cells slots Q (F0 m (pc + 3) ls (.ref (ad x) :: rest))) : W p l e R s m args below meth c H locs cells slots Q (F0 m pc ls (.ref (ad i) :: rest)) := by
  obtain ⟨x, h1, h2⟩ := gP_some hf
  exact r_getN X h hc hin hk q hl hs h1 d (kk x h2)
/-- a key's int field, in a method of class Key -/
theorem r_getK (X : gX p m c cc nL s args own Γ A) (h : gWd Γ A nz ad μ s.heap H locs) {i k idx : Nat} {ref : String} {kt : Int32 → gR} (hk : k < 3) (hl : Cond.fieldLink own idx ref (TX3 k).2.1 (TX3 k).2.2.1 ∈ lw_all) (hs : (TX3 k).1 = ref) (d : decode cc pc = .ok (.getfield idx, 3)) (hf : gI (gkld μ i k) kt = some r)
    (kk : ∀ x : Int32, kt x = some r → W p l e R s m args below meth c H locs cells slots Q (F0 m (pc + 3) ls (.int x :: rest))) : W p l e R s m args below meth c H locs cells slots Q (F0 m pc ls (.ref (ad i) :: rest)) := by
  obtain ⟨x, h1, h2⟩ := gI_some hf
  obtain ⟨ci, fs, g1, g2, he, hv⟩ := gkld_some h1
  have hg : gfld μ i ci k = some (.int x) := by simp [gfld, he, hv]
  rcases (show ci = 3 ∨ ci = 4 ∨ ci = 5 ∨ ci = 6 ∨ ci = 7 ∨ ci = 8 by omega) with rfl | rfl | rfl | rfl | rfl | rfl
  · exact r_get X h (T := TX3) rfl in_X3 hk hl hs hg d (kk x h2)
  · exact r_get X h (T := TX4) rfl in_X4 hk hl hs hg d (kk x h2)
  · exact r_get X h (T := TX5) rfl in_X5 hk hl hs hg d (kk x h2)
  · exact r_get X h (T := TX6) rfl in_X6 hk hl hs hg d (kk x h2)
  · exact r_get X h (T := TX7) rfl in_X7 hk hl hs hg d (kk x h2)
  · exact r_get X h (T := TX8) rfl in_X8 hk hl hs hg d (kk x h2)
theorem gcl_put {n k c : Nat} {fs : List Value} {v : Value} (h : gcl n (.inr (c, fs))) (hv : ∀ j : Nat, v = .ref j → j < n) : gcl n (.inr (c, fs.set k v)) := by
  intro w hw j hj
  rcases List.mem_or_eq_of_mem_set hw with h1 | h1
  · exact h w h1 j hj
  · exact hv j (h1.symm.trans hj)
/-- putfield -/
theorem r_put (X : gX p m c cc nL s args own Γ A) (h : gWd Γ A nz ad μ s.heap H locs) {i ci k N idx : Nat} {C ref : String} {T : u_T} {ty0 : Nat → FieldType} {ty : FieldType} {v : Value} {kt : gM → gR} (hc : gCl[ci]? = some (C, T, N)) (hin : ∀ w ∈ u_ws C T N, w ∈ lw_all) (hty : ∀ k, k < N → parseFieldDescriptor (T k).2.2.1 = some (ty0 k)) (hnm : ∀ a, a < N → ∀ b, b < N → a ≠ b → (T a).2.1 ≠ (T b).2.1) (hk : k < N) (hl : Cond.fieldLink own idx ref (T k).2.1 (T k).2.2.1 ∈ lw_all) (hs : (T k).1 = ref) (hfin : (T k).2.2.2 = false) (hd : parseFieldDescriptor (T k).2.2.1 = some ty) (hn : narrow ty (gv ad v) = gv ad v) (hft : fits ty (gv ad v) = true) (hr : ∀ j : Nat, v = .ref j → ∃ e : gE, μ.2 j = some e)
    (d : decode cc pc = .ok (.putfield idx, 3)) (hf : gpf μ i ci k v kt = some r) (kk : ∀ (μ1 : gM) (H1 : Heap) (locs1 : List Loc), kt μ1 = some r → gWd Γ A nz ad μ1 s.heap H1 locs1 → W p l e R s m args below meth c H1 locs1 cells slots Q (F0 m (pc + 3) ls rest)) : W p l e R s m args below meth c H locs cells slots Q (F0 m pc ls (gv ad v :: .ref (ad i) :: rest)) := by
  obtain ⟨fs, he, hlen, hkt⟩ := gpf_some hf
  obtain ⟨q, hq⟩ := h.at he
  subst hs
  refine va_put X.hx X.hb X.hts hin ty0 hty hnm X.hown X.K h.P h.D h.2.2.1 q hq hc k hk (X.hts _ hl) (fun _ h9 => h9) hfin hd hn hft (by rw [List.length_map]; exact hlen) d (fun H1 locs1 hP hD hS => ?_)
  exact kk _ H1 locs1 hkt (h.set he hq (by show Sum.inr (ci, _) = Sum.inr (ci, _); rw [List.map_set]) (gcl_put (h.1 i _ he).2.1 (fun j hj => by obtain ⟨f, hf⟩ := hr j hj; exact (h.1 j f hf).1)) hP hS)
theorem r_putN (X : gX p m c cc nL s args own Γ A) (h : gWd Γ A nz ad μ s.heap H locs) {i ci k N idx : Nat} {C ref host : String} {T : u_T} {ty0 : Nat → FieldType} {ty : FieldType} {v : Value} {kt : gM → gR} (hc : gCl[ci]? = some (C, T, N)) (hin : ∀ w ∈ u_ws C T N, w ∈ lw_all) (hty : ∀ k, k < N → parseFieldDescriptor (T k).2.2.1 = some (ty0 k)) (hnm : ∀ a, a < N → ∀ b, b < N → a ≠ b → (T a).2.1 ≠ (T b).2.1) (hk : k < N) (q : Nat) (hl : gNl[q]? = some (Cond.fieldLinkNest own idx ref (T k).2.1 (T k).2.2.1 host)) (hs : (T k).1 = ref) (hfin : (T k).2.2.2 = false) (hd : parseFieldDescriptor (T k).2.2.1 = some ty) (hn : narrow ty (gv ad v) = gv ad v) (hft : fits ty (gv ad v) = true) (hr : ∀ j : Nat, v = .ref j → ∃ e : gE, μ.2 j = some e)
    (d : decode cc pc = .ok (.putfield idx, 3)) (hf : gpf μ i ci k v kt = some r) (kk : ∀ (μ1 : gM) (H1 : Heap) (locs1 : List Loc), kt μ1 = some r → gWd Γ A nz ad μ1 s.heap H1 locs1 → W p l e R s m args below meth c H1 locs1 cells slots Q (F0 m (pc + 3) ls rest)) : W p l e R s m args below meth c H locs cells slots Q (F0 m pc ls (gv ad v :: .ref (ad i) :: rest)) := by
  obtain ⟨fs, he, hlen, hkt⟩ := gpf_some hf
  obtain ⟨q1, hq⟩ := h.at he
  subst hs
  refine va_putN X.hx X.hb X.hts hin ty0 hty hnm X.hown X.K h.P h.D h.2.2.1 q1 hq hc k hk (va_Nw.use rfl (X.2.1.2.1 q _ hl)) (fun _ h9 => h9) hfin hd hn hft (by rw [List.length_map]; exact hlen) d (fun H1 locs1 hP hD hS => ?_)
  exact kk _ H1 locs1 hkt (h.set he hq (by show Sum.inr (ci, _) = Sum.inr (ci, _); rw [List.map_set]) (gcl_put (h.1 i _ he).2.1 (fun j hj => by obtain ⟨f, hf⟩ := hr j hj; exact (h.1 j f hf).1)) hP hS)
/-- putfield of a final field, in its constructor -/
theorem r_putF (X : gX p m c cc nL s args own Γ A) (h : gWd Γ A nz ad μ s.heap H locs) {i ci k N idx : Nat} {C ref : String} {T : u_T} {ty0 : Nat → FieldType} {ty : FieldType} {v : Value} {kt : gM → gR} (hc : gCl[ci]? = some (C, T, N)) (hin : ∀ w ∈ u_ws C T N, w ∈ lw_all) (hty : ∀ k, k < N → parseFieldDescriptor (T k).2.2.1 = some (ty0 k)) (hnm : ∀ a, a < N → ∀ b, b < N → a ≠ b → (T a).2.1 ≠ (T b).2.1) (hk : k < N) (hl : Cond.fieldLink own idx ref (T k).2.1 (T k).2.2.1 ∈ lw_all) (hs : (T k).1 = ref) (hfin : (T k).2.2.2 = true) (hin2 : meth.name = "<init>") (hdecl : (T k).1 = own) (hd : parseFieldDescriptor (T k).2.2.1 = some ty) (hn : narrow ty (gv ad v) = gv ad v) (hft : fits ty (gv ad v) = true) (hr : ∀ j : Nat, v = .ref j → ∃ e : gE, μ.2 j = some e)
    (d : decode cc pc = .ok (.putfield idx, 3)) (hf : gpf μ i ci k v kt = some r) (kk : ∀ (μ1 : gM) (H1 : Heap) (locs1 : List Loc), kt μ1 = some r → gWd Γ A nz ad μ1 s.heap H1 locs1 → W p l e R s m args below meth c H1 locs1 cells slots Q (F0 m (pc + 3) ls rest)) : W p l e R s m args below meth c H locs cells slots Q (F0 m pc ls (gv ad v :: .ref (ad i) :: rest)) := by
  obtain ⟨fs, he, hlen, hkt⟩ := gpf_some hf
  obtain ⟨q, hq⟩ := h.at he
  subst hs
  refine va_putF X.hx X.hb X.hts hin ty0 hty hnm X.hown X.K h.P h.D h.2.2.1 q hq hc k hk (X.hts _ hl) (fun _ h9 => h9) hfin hin2 hdecl hd hn hft (by rw [List.length_map]; exact hlen) d (fun H1 locs1 hP hD hS => ?_)
  exact kk _ H1 locs1 hkt (h.set he hq (by show Sum.inr (ci, _) = Sum.inr (ci, _); rw [List.map_set]) (gcl_put (h.1 i _ he).2.1 (fun j hj => by obtain ⟨f, hf⟩ := hr j hj; exact (h.1 j f hf).1)) hP hS)
/-! arrays -/
theorem r_iald (X : gX p m c cc nL s args own Γ A) (h : gWd Γ A nz ad μ s.heap H locs) {i : Nat} {x : Int32} {kt : Int32 → gR} (d : decode cc pc = .ok (.iaload, 1)) (hf : gaI μ 0 i x kt = some r)
    (kk : ∀ y : Int32, kt y = some r → W p l e R s m args below meth c H locs cells slots Q (F0 m (pc + 1) ls (.int y :: rest))) : W p l e R s m args below meth c H locs cells slots Q (F0 m pc ls (.int x :: .ref (ad i) :: rest)) := by
  obtain ⟨n, f, he, hi, hkt⟩ := gaI_some hf
  obtain ⟨q, hq⟩ := h.at he
  exact va_iald X.hx X.hb X.K h.P q 0 hq rfl hi d (kk _ hkt)
theorem r_bald (X : gX p m c cc nL s args own Γ A) (h : gWd Γ A nz ad μ s.heap H locs) {i : Nat} {x : Int32} {kt : Int32 → gR} (d : decode cc pc = .ok (.baload, 1)) (hf : gaI μ 1 i x kt = some r)
    (kk : ∀ y : Int32, kt y = some r → W p l e R s m args below meth c H locs cells slots Q (F0 m (pc + 1) ls (.int y :: rest))) : W p l e R s m args below meth c H locs cells slots Q (F0 m pc ls (.int x :: .ref (ad i) :: rest)) := by
  obtain ⟨n, f, he, hi, hkt⟩ := gaI_some hf
  obtain ⟨q, hq⟩ := h.at he
  exact va_bald X.hx X.hb X.K h.P q 1 hq rfl hi d (kk _ hkt)
theorem r_zald (X : gX p m c cc nL s args own Γ A) (h : gWd Γ A nz ad μ s.heap H locs) {i : Nat} {x : Int32} {kt : Int32 → gR} (d : decode cc pc = .ok (.baload, 1)) (hf : gaI μ 2 i x kt = some r)
    (kk : ∀ y : Int32, kt y = some r → W p l e R s m args below meth c H locs cells slots Q (F0 m (pc + 1) ls (.int y :: rest))) : W p l e R s m args below meth c H locs cells slots Q (F0 m pc ls (.int x :: .ref (ad i) :: rest)) := by
  obtain ⟨n, f, he, hi, hkt⟩ := gaI_some hf
  obtain ⟨q, hq⟩ := h.at he
  exact va_zald X.hx X.hb X.K h.P q 2 hq rfl hi d (kk _ hkt)
theorem r_iast (X : gX p m c cc nL s args own Γ A) (h : gWd Γ A nz ad μ s.heap H locs) {i : Nat} {x v : Int32} {kt : gM → gR} (d : decode cc pc = .ok (.iastore, 1)) (hf : gsI μ 0 i x v kt = some r)
    (kk : ∀ (μ1 : gM) (H1 : Heap) (locs1 : List Loc), kt μ1 = some r → gWd Γ A nz ad μ1 s.heap H1 locs1 → W p l e R s m args below meth c H1 locs1 cells slots Q (F0 m (pc + 1) ls rest)) : W p l e R s m args below meth c H locs cells slots Q (F0 m pc ls (.int v :: .int x :: .ref (ad i) :: rest)) := by
  obtain ⟨n, f, he, hi, hkt⟩ := gsI_some hf
  obtain ⟨q, hq⟩ := h.at he
  exact va_iast X.hx X.hb X.K h.P h.D h.2.2.1 q 0 hq rfl hi d (fun H1 locs1 hP hD hS => kk _ H1 locs1 hkt (h.set he hq rfl trivial hP hS))
theorem r_bast (X : gX p m c cc nL s args own Γ A) (h : gWd Γ A nz ad μ s.heap H locs) {i : Nat} {x v : Int32} {kt : gM → gR} (d : decode cc pc = .ok (.bastore, 1)) (hf : gsI μ 1 i x (vp_nar .byte v) kt = some r)
    (kk : ∀ (μ1 : gM) (H1 : Heap) (locs1 : List Loc), kt μ1 = some r → gWd Γ A nz ad μ1 s.heap H1 locs1 → W p l e R s m args below meth c H1 locs1 cells slots Q (F0 m (pc + 1) ls rest)) : W p l e R s m args below meth c H locs cells slots Q (F0 m pc ls (.int v :: .int x :: .ref (ad i) :: rest)) := by
  obtain ⟨n, f, he, hi, hkt⟩ := gsI_some hf
  obtain ⟨q, hq⟩ := h.at he
  exact va_bast X.hx X.hb X.K h.P h.D h.2.2.1 q 1 hq rfl hi d (fun H1 locs1 hP hD hS => kk _ H1 locs1 hkt (h.set he hq rfl trivial hP hS))
theorem r_zast (X : gX p m c cc nL s args own Γ A) (h : gWd Γ A nz ad μ s.heap H locs) {i : Nat} {x v : Int32} {kt : gM → gR} (d : decode cc pc = .ok (.bastore, 1)) (hf : gsI μ 2 i x (vp_nar .boolean v) kt = some r)
    (kk : ∀ (μ1 : gM) (H1 : Heap) (locs1 : List Loc), kt μ1 = some r → gWd Γ A nz ad μ1 s.heap H1 locs1 → W p l e R s m args below meth c H1 locs1 cells slots Q (F0 m (pc + 1) ls rest)) : W p l e R s m args below meth c H locs cells slots Q (F0 m pc ls (.int v :: .int x :: .ref (ad i) :: rest)) := by
  obtain ⟨n, f, he, hi, hkt⟩ := gsI_some hf
  obtain ⟨q, hq⟩ := h.at he
  exact va_zast X.hx X.hb X.K h.P h.D h.2.2.1 q 2 hq rfl hi d (fun H1 locs1 hP hD hS => kk _ H1 locs1 hkt (h.set he hq rfl trivial hP hS))
theorem r_len (X : gX p m c cc nL s args own Γ A) (h : gWd Γ A nz ad μ s.heap H locs) {t i : Nat} {ty : FieldType} {kt : Int32 → gR} (ht : (gTy Γ.2)[t]? = some (Γ.2 t, ty)) (d : decode cc pc = .ok (.arraylength, 1)) (hf : glen μ t i kt = some r)
    (kk : ∀ y : Int32, kt y = some r → W p l e R s m args below meth c H locs cells slots Q (F0 m (pc + 1) ls (.int y :: rest))) : W p l e R s m args below meth c H locs cells slots Q (F0 m pc ls (.ref (ad i) :: rest)) := by
  obtain ⟨x, he, hkt⟩ := glen_some hf
  obtain ⟨q, hq⟩ := h.at he
  exact va_alen (x := (x.1, gx ad x.2)) X.hx X.hb X.K h.P q t hq ht rfl d (kk _ hkt)
theorem gvrf {ad : Nat → Nat} {o : Option Nat} : gv ad (va_rf o) = va_rf (o.map ad) := by cases o <;> rfl
theorem r_aald (X : gX p m c cc nL s args own Γ A) (h : gWd Γ A nz ad μ s.heap H locs) {t i : Nat} {ty : FieldType} {x : Int32} {kt : Option Nat → gR} (ht : (gTy Γ.2)[t]? = some (Γ.2 t, ty)) (hty : ty.isReference = true) (d : decode cc pc = .ok (.aaload, 1)) (hf : gaQ μ t i x kt = some r)
    (kk : ∀ y : Option Nat, kt y = some r → W p l e R s m args below meth c H locs cells slots Q (F0 m (pc + 1) ls (va_rf (y.map ad) :: rest))) : W p l e R s m args below meth c H locs cells slots Q (F0 m pc ls (.int x :: .ref (ad i) :: rest)) := by
  obtain ⟨n, f, he, hin, hkt⟩ := gaQ_some hf
  obtain ⟨q, hq⟩ := h.at he
  have hlt : x.toNatClampNeg < n := Nat.not_le.mp fun q => hin (Or.inr q)
  exact W.aald (v := va_rf ((f x.toNatClampNeg).map ad)) (ty := ty) X.hx X.hb (h.P q _ hq) ((X.K.2 t _ ht).1 n (fun j => va_rf ((f j).map ad))) hty (fun q => by cases q) (by show ¬ (x < 0 ∨ (arrV _ _ _).slots.size ≤ _); rw [arrV_size]; exact hin) (by show (arrV _ _ _).slots[_]? = _; rw [arrV_read _ _ hlt]) rfl rfl d (kk _ hkt)
/-- an element that isn't null -/
theorem r_nn {o : Option Nat} {kt : Nat → gR} (hf : gnn o kt = some r) (kk : ∀ y : Nat, kt y = some r → W p l e R s m args below meth c H locs cells slots Q (F0 m pc ls (.ref (ad y) :: rest))) : W p l e R s m args below meth c H locs cells slots Q (F0 m pc ls (va_rf (o.map ad) :: rest)) := by
  cases o with
  | none => cases hf
  | some y => exact kk y hf
theorem r_nl {o : Option Nat} {k0 : gR} {k1 : Nat → gR} (hf : gnl o k0 k1 = some r) (kk0 : k0 = some r → W p l e R s m args below meth c H locs cells slots Q (F0 m pc ls (.null :: rest))) (kk : ∀ y : Nat, k1 y = some r → W p l e R s m args below meth c H locs cells slots Q (F0 m pc ls (.ref (ad y) :: rest))) : W p l e R s m args below meth c H locs cells slots Q (F0 m pc ls (va_rf (o.map ad) :: rest)) := by
  cases o with
  | none => exact kk0 hf
  | some y => exact kk y hf
theorem gcl_sto {n t N k : Nat} {f : Nat → Option Nat} {v : Option Nat} (h : gcl n (.inl (t, N, .inr (.inr (.inr (.inr f)))))) (hv : ∀ j : Nat, v = some j → j < n) : gcl n (.inl (t, N, .inr (.inr (.inr (.inr (va_up f k v)))))) := by
  intro j i hj
  by_cases hjk : j = k
  · subst hjk
    rw [gu_self] at hj
    exact hv i hj
  · rw [gu_ne hjk] at hj
    exact h j i hj
theorem gsto {ad : Nat → Nat} {f : Nat → Option Nat} {k : Nat} {v : Option Nat} : (fun j => (va_up f k v j).map ad) = va_up (fun j => (f j).map ad) k (v.map ad) := by
  funext j
  by_cases hjk : j = k
  · subst hjk
    rw [gu_self, gu_self]
  · rw [gu_ne hjk, gu_ne hjk]
/-- aastore of a cell into a row whose component class its class can go to -/
theorem r_aast (X : gX p m c cc nL s args own Γ A) (h : gWd Γ A nz ad μ s.heap H locs) {t i v : Nat} {ty : FieldType} {x : Int32} {kt : gM → gR} (ht : ty.isReference = true) (hkA : ∃ (kA kcomp : Class) (comp : ClassId), s.vm.classes[Γ.2 t]? = some kA ∧ kA.kind = .array comp ty ∧ s.vm.classes[comp]? = some kcomp ∧ ∃ (cv : Cell) (kv : Class), H[ad v]? = some cv ∧ (∀ q, cv.vm ≠ .statics q) ∧ s.vm.classes[cv.cls]? = some kv ∧ s.vm.assignable cv.cls comp = true) (hv : ∃ ev : gE, μ.2 v = some ev) (d : decode cc pc = .ok (.aastore, 1)) (hf : gsQ μ t i x (some v) kt = some r)
    (kk : ∀ (μ1 : gM) (H1 : Heap) (locs1 : List Loc), kt μ1 = some r → gWd Γ A nz ad μ1 s.heap H1 locs1 → W p l e R s m args below meth c H1 locs1 cells slots Q (F0 m (pc + 1) ls rest)) : W p l e R s m args below meth c H locs cells slots Q (F0 m pc ls (.ref (ad v) :: .int x :: .ref (ad i) :: rest)) := by
  obtain ⟨n, f, he, hin, hkt⟩ := gsQ_some hf
  obtain ⟨ev, hev⟩ := hv
  obtain ⟨q, hq⟩ := h.at he
  obtain ⟨kA, kcomp, comp, k1, k2, k3, cv, kv, g1, g2, g3, g4⟩ := hkA
  have hlt : x.toNatClampNeg < n := Nat.not_le.mp fun q => hin (Or.inr q)
  have h0 : ¬ x < 0 := fun q => hin (Or.inl q)
  refine W.aast X.hx X.hb (h.P q _ hq) (fun q h => by cases h) (fun h => by cases h) k1 k2 ht k3 ⟨h0, by show _ < (arrV _ _ _).slots.size; rw [arrV_size]; exact hlt⟩ g1 g2 g3 g4 rfl rfl d fun H1 e z oq => ?_
  refine kk _ H1 _ hkt (h.set (q := q) he hq (x := .inl (Γ.2 t, n, .inr (.inr (.inr (.inr (va_up (fun j => (f j).map ad) x.toNatClampNeg (some (ad v)))))))) ?_ (gcl_sto (h.1 i _ he).2.1 (fun j hj => by cases hj; exact (h.1 v ev hev).1)) (h.P.set h.D hq ?_ oq) (h.2.2.1.put z oq (h.D.2 q _ hq)))
  · show _ = Sum.inl (Γ.2 t, n, Sum.inr (Sum.inr (Sum.inr (Sum.inr _))))
    rw [gsto]
    rfl
  · show H1[ad i]? = some (vp_cell _ _)
    rw [e]
    rw [show vp_cell (Γ.2 t) (n, gx ad (.inr (.inr (.inr (.inr f))))) = arrV (Γ.2 t) n (fun j => va_rf ((f j).map ad)) from rfl, vp_cell_q, arrV_store]
    congr 2
    funext j
    by_cases hj : j = x.toNatClampNeg
    · subst hj
      simp [updV, va_up, va_rf]
    · simp [updV, va_up, hj]
/-- rows of int arrays, of byte arrays -/
theorem r_astI (X : gX p m c cc nL s args own Γ A) (h : gWd Γ A nz ad μ s.heap H locs) {i v n0 : Nat} {f0 : Nat → Int32} {x : Int32} {kt : gM → gR} (hv : μ.2 v = some (.inl (0, n0, .inl f0))) (d : decode cc pc = .ok (.aastore, 1)) (hf : gsQ μ 3 i x (some v) kt = some r)
    (kk : ∀ (μ1 : gM) (H1 : Heap) (locs1 : List Loc), kt μ1 = some r → gWd Γ A nz ad μ1 s.heap H1 locs1 → W p l e R s m args below meth c H1 locs1 cells slots Q (F0 m (pc + 1) ls rest)) : W p l e R s m args below meth c H locs cells slots Q (F0 m pc ls (.ref (ad v) :: .int x :: .ref (ad i) :: rest)) := by
  obtain ⟨kA, k1, k2⟩ := X.2.1.2.2.2.1
  obtain ⟨-, k0, hk0, -⟩ := (X.K.2 0 _ rfl).1 0 (fun _ => .int 0)
  have hcell := (h.1 v _ hv).2.2.1
  exact r_aast X h (ty := .array .int) rfl ⟨kA, k0, Γ.2 0, k1, k2, hk0, _, k0, hcell, (fun q h => by cases h), hk0, va_asg _ _⟩ ⟨_, hv⟩ d hf kk
theorem r_astB (X : gX p m c cc nL s args own Γ A) (h : gWd Γ A nz ad μ s.heap H locs) {i v n0 : Nat} {f0 : Nat → Int32} {x : Int32} {kt : gM → gR} (hv : μ.2 v = some (.inl (1, n0, .inl f0))) (d : decode cc pc = .ok (.aastore, 1)) (hf : gsQ μ 4 i x (some v) kt = some r)
    (kk : ∀ (μ1 : gM) (H1 : Heap) (locs1 : List Loc), kt μ1 = some r → gWd Γ A nz ad μ1 s.heap H1 locs1 → W p l e R s m args below meth c H1 locs1 cells slots Q (F0 m (pc + 1) ls rest)) : W p l e R s m args below meth c H locs cells slots Q (F0 m pc ls (.ref (ad v) :: .int x :: .ref (ad i) :: rest)) := by
  obtain ⟨kA, k1, k2⟩ := X.2.1.2.2.2.2
  obtain ⟨-, k0, hk0, -⟩ := (X.K.2 1 _ rfl).1 0 (fun _ => .int 0)
  have hcell := (h.1 v _ hv).2.2.1
  exact r_aast X h (ty := .array .byte) rfl ⟨kA, k0, Γ.2 1, k1, k2, hk0, _, k0, hcell, (fun q h => by cases h), hk0, va_asg _ _⟩ ⟨_, hv⟩ d hf kk
/-- rows of objects of a class; of one that can go to it -/
theorem r_astO (X : gX p m c cc nL s args own Γ A) (h : gWd Γ A nz ad μ s.heap H locs) {t i v ci N : Nat} {E C : String} {T : u_T} {vs : List Value} {x : Int32} {kt : gM → gR} (ht : (gTy Γ.2)[t]? = some (Γ.2 t, .object E)) (hv : μ.2 v = some (.inr (ci, vs))) (hc : gCl[ci]? = some (C, T, N)) (hca : C = E ∨ va_Nw (.castable C E) s) (d : decode cc pc = .ok (.aastore, 1)) (hf : gsQ μ t i x (some v) kt = some r)
    (kk : ∀ (μ1 : gM) (H1 : Heap) (locs1 : List Loc), kt μ1 = some r → gWd Γ A nz ad μ1 s.heap H1 locs1 → W p l e R s m args below meth c H1 locs1 cells slots Q (F0 m (pc + 1) ls rest)) : W p l e R s m args below meth c H locs cells slots Q (F0 m pc ls (.ref (ad v) :: .int x :: .ref (ad i) :: rest)) := by
  obtain ⟨kA, comp, k1, k2, k3, -⟩ := (X.K.2 t _ ht).2
  obtain ⟨kE, hkE, -⟩ := Vm.findClass_spec k3
  obtain ⟨r', hr', cellV, g1, g2, g3, -⟩ := (h.1 v _ hv).2.2.1
  have hcls := (X.K.1 ci _ hc).2
  obtain ⟨kC, hkC, -⟩ := hcls.2
  have hasg : s.vm.assignable (Γ.1.1 ci) comp = true := by
    rcases hca with rfl | hca
    · cases hcls.1.symm.trans k3
      exact va_asg _ _
    · obtain ⟨c0, t1, f1, f2, f3⟩ := Cond.castable_spec (va_Nw.use (A := args) rfl hca)
      cases hcls.1.symm.trans f1
      cases k3.symm.trans f2
      exact f3
  exact r_aast X h (ty := .object E) rfl ⟨kA, kE, comp, k1, k2, hkE, cellV, kC, g1, (fun q h => by rw [g3] at h; cases h), by rw [g2]; exact hkC, by rw [g2]; exact hasg⟩ ⟨_, hv⟩ d hf kk
end GROW
