/-! MY ROWS 2: the combinators of the mirrored functions, and a row for each instruction -/
set_option maxRecDepth 100000
/-- words of the tables that don't ride in the lists -/
def gNl : List Cond := [
  .methodLinkNest "SandPiano" 50 ⟨"SandPiano$Sands", "<init>", "()V"⟩ "SandPiano",
  .methodLinkNest "SandPiano" 275 ⟨"SandPiano$Kept", "<init>", "()V"⟩ "SandPiano",
  .methodLinkNest "SandPiano$Kept" 11 ⟨"SandPiano$Sands", "<init>", "()V"⟩ "SandPiano",
  .methodLinkNest "SandPiano$Ring" 20 ⟨"SandPiano", "playable", "()I"⟩ "SandPiano",
  .fieldLinkNest "SandPiano$Key" 21 "SandPiano$Sands" "at" "[I" "SandPiano",
  .fieldLinkNest "SandPiano$Crab" 28 "SandPiano$Sands" "at" "[I" "SandPiano",
  .fieldLinkNest "SandPiano$Bass" 28 "SandPiano$Sands" "at" "[I" "SandPiano",
  .fieldLinkNest "SandPiano$Shell" 17 "SandPiano$Sands" "at" "[I" "SandPiano",
  .fieldLinkNest "SandPiano" 194 "SandPiano$Sands" "at" "[I" "SandPiano",
  .fieldLinkNest "SandPiano$Ring" 16 "SandPiano" "many" "I" "SandPiano",
  .fieldLinkNest "SandPiano" 276 "SandPiano$Kept" "sands" "LSandPiano$Sands;" "SandPiano",
  .fieldLinkNest "SandPiano" 281 "SandPiano$Kept" "ahead" "[I" "SandPiano",
  .fieldLinkNest "SandPiano" 282 "SandPiano$Kept" "deedMany" "I" "SandPiano",
  .fieldLinkNest "SandPiano" 283 "SandPiano$Kept" "spade" "I" "SandPiano",
  .castable "SandPiano$Drum" "SandPiano$Bass",
  .castable "SandPiano$Ring" "SandPiano$Shell",
  .castable "SandPiano$Bass" "SandPiano$Key",
  .castable "SandPiano$Shell" "SandPiano$Key",
  .castable "SandPiano$Crab" "SandPiano$Key",
  .castable "SandPiano$Drum" "SandPiano$Key",
  .castable "SandPiano$Ring" "SandPiano$Key"]
def gNw (U : State) : Prop := ∀ (k : Nat) (w : Cond), gNl[k]? = some w → va_Nw w U
theorem gNw.warm {s U : State} (hW : s.WarmedH U.vm) (h : gNw s) : gNw U := by
  intro k w hk
  have hz := h k w hk
  have hm := List.mem_of_getElem? hk
  simp only [gNl, List.mem_cons, List.not_mem_nil, or_false] at hm
  rcases hm with rfl | rfl | rfl | rfl | rfl | rfl | rfl | rfl | rfl | rfl | rfl | rfl | rfl | rfl | rfl | rfl | rfl | rfl | rfl | rfl | rfl
  all_goals first | exact va_Nw.warmM hW hz | exact va_Nw.warmF hW hz | exact va_Nw.warmC hW hz
theorem va_AOA.moved {t : FieldType} {u U : State} (hvm : u.vm.Alike U.vm) (h : va_Nw (.arrayOver (.array t)) u) : va_Nw (.arrayOver (.array t)) U := by
  obtain ⟨comp, c, k, h1, h2, h3, h4, h5⟩ := arrayOverA_spec h
  obtain ⟨k', hk', he⟩ := hvm.2.2 _ _ h3
  have hi : (U.vm.classes.findIdx? fun (x : Class) => match x.kind with | .array component _ => component == comp | _ => false) = some c := by
    rw [hvm.findIdx?_eq _ (fun _ => rfl)]
    exact h2
  have hkind : k'.kind = .array comp (.array t) := by rw [he]; exact h4
  have f1 : U.vm.findClass (FieldType.array t).toString = some comp := by rw [hvm.findClass]; exact h1
  have f2 : U.vm.findClass ("[" ++ (FieldType.array t).toString) = some c := by rw [hvm.findClass]; exact h5
  unfold va_Nw Cond.before Cond.holds
  simp only [Cond.value]
  rw [f1, Option.bind_some]
  refine (congrArg (fun o : Option Nat => (o.bind (fun c => (U.vm.classes[c]?).map fun (k : Class) => match k.kind with | .array _ ty => decide (ty = FieldType.array t) && decide (U.vm.findClass ("[" ++ (FieldType.array t).toString) = some c) | _ => false) == some true)) hi).trans ?_
  simp [hk', hkind, f2]
/-- arrays over classes and over arrays are there -/
def gAO (U : State) : Prop := va_AO "SandPiano$Key" U ∧ va_AO "SandPiano$Kept" U ∧ va_AO "SandPiano$Sands" U ∧ va_Nw (.arrayOver (.array .int)) U ∧ va_Nw (.arrayOver (.array .byte)) U
def gAA (Γ : gG) (U : State) : Prop := (∃ kA : Class, U.vm.classes[Γ.2 3]? = some kA ∧ kA.kind = .array (Γ.2 0) (.array .int)) ∧ ∃ kA : Class, U.vm.classes[Γ.2 4]? = some kA ∧ kA.kind = .array (Γ.2 1) (.array .byte)
/-- all that the walk knows of the classes at a state -/
def gK (Γ : gG) (U : State) : Prop := va_K Γ.1 gCl (gTy Γ.2) U ∧ gNw U ∧ gAO U ∧ gAA Γ U
theorem gK.warm {Γ : gG} {s U : State} (hW : s.WarmedH U.vm) (h : gK Γ s) : gK Γ U := by
  obtain ⟨h1, h2, ⟨a1, a2, a3, a4, a5⟩, ⟨k1, e1, e2⟩, ⟨k2, e3, e4⟩⟩ := h
  refine ⟨va_K.moved hW.alike h1, gNw.warm hW h2, ⟨a1.moved hW.alike, a2.moved hW.alike, a3.moved hW.alike, va_AOA.moved hW.alike a4, va_AOA.moved hW.alike a5⟩, ?_, ?_⟩
  · obtain ⟨k', hk', he⟩ := hW.alike.2.2 _ _ e1
    exact ⟨k', hk', by rw [he]; exact e2⟩
  · obtain ⟨k', hk', he⟩ := hW.alike.2.2 _ _ e3
    exact ⟨k', hk', by rw [he]; exact e4⟩
/-- what stays all through a method's run -/
def gX (p : Program) (m : MethodId) (c : Code) (cc : ByteArray) (nL : Nat) (s : State) (args : Array Value) (own : String) (Γ : gG) (A : Nat → Prop) : Prop := CallFix p m c cc nL s args lw_all own ∧ gK Γ s ∧ ∀ q, s.heap.size ≤ q → A q
section GX
variable {p : Program} {m : MethodId} {c : Code} {cc : ByteArray} {nL : Nat} {s : State} {args : Array Value} {own : String} {Γ : gG} {A : Nat → Prop}
theorem gX.hx (X : gX p m c cc nL s args own Γ A) : p.tables.exec = Jvm.exec := X.1.1
theorem gX.hb (X : gX p m c cc nL s args own Γ A) : c.code = cc := X.1.2.1
theorem gX.hml (X : gX p m c cc nL s args own Γ A) : c.maxLocals = nL := X.1.2.2.1
theorem gX.hown (X : gX p m c cc nL s args own Γ A) : s.vm.findClass own = some m.cls := X.1.2.2.2.1
theorem gX.hts (X : gX p m c cc nL s args own Γ A) : ∀ w ∈ lw_all, w.before args s = true := X.1.2.2.2.2
theorem gX.K (X : gX p m c cc nL s args own Γ A) : va_K Γ.1 gCl (gTy Γ.2) s := X.2.1.1
end GX
/-! the combinators -/
def gfld (μ : gM) (i c k : Nat) : Option Value := match μ.2 i with
  | some (.inr o) => if o.1 = c then o.2[k]? else none
  | _ => none
/-- a key's field: of any of the six classes -/
def gkld (μ : gM) (i k : Nat) : Option Value := match μ.2 i with
  | some (.inr o) => if 3 ≤ o.1 ∧ o.1 ≤ 8 then o.2[k]? else none
  | _ => none
def gI (v : Option Value) (kt : Int32 → gR) : gR := match v with
  | some (.int x) => kt x
  | _ => none
def gJ (v : Option Value) (kt : Int64 → gR) : gR := match v with
  | some (.long x) => kt x
  | _ => none
def gP (v : Option Value) (kt : Nat → gR) : gR := match v with
  | some (.ref x) => kt x
  | _ => none
def gpf (μ : gM) (i c k : Nat) (v : Value) (kt : gM → gR) : gR := match μ.2 i with
  | some (.inr o) => if o.1 = c ∧ k < o.2.length then kt (gset μ i (.inr (c, o.2.set k v))) else none
  | _ => none
/-- the id's cell is there -/
def glv (μ : gM) (i : Nat) (kt : gR) : gR := match μ.2 i with
  | some _ => kt
  | none => none
def gis (μ : gM) (i c : Nat) (kt : gR) : gR := match μ.2 i with
  | some (.inr o) => if o.1 = c then kt else none
  | _ => none
def garI (μ : gM) (t i : Nat) : Option (Nat × (Nat → Int32)) := match μ.2 i with
  | some (.inl a) => if a.1 = t then (match a.2.2 with
    | .inl f => some (a.2.1, f)
    | _ => none) else none
  | _ => none
def garQ (μ : gM) (t i : Nat) : Option (Nat × (Nat → Option Nat)) := match μ.2 i with
  | some (.inl a) => if a.1 = t then (match a.2.2 with
    | .inr (.inr (.inr (.inr f))) => some (a.2.1, f)
    | _ => none) else none
  | _ => none
def gaI (μ : gM) (t i : Nat) (x : Int32) (kt : Int32 → gR) : gR := match garI μ t i with
  | some a => if x < 0 ∨ a.1 ≤ x.toNatClampNeg then none else kt (a.2 x.toNatClampNeg)
  | none => none
def gsI (μ : gM) (t i : Nat) (x v : Int32) (kt : gM → gR) : gR := match garI μ t i with
  | some a => if x < 0 ∨ a.1 ≤ x.toNatClampNeg then none else kt (gset μ i (.inl (t, a.1, .inl (upd a.2 x.toNatClampNeg v))))
  | none => none
def glen (μ : gM) (t i : Nat) (kt : Int32 → gR) : gR := match μ.2 i with
  | some (.inl a) => if a.1 = t then kt (Int32.ofNat a.2.1) else none
  | _ => none
def gaQ (μ : gM) (t i : Nat) (x : Int32) (kt : Option Nat → gR) : gR := match garQ μ t i with
  | some a => if x < 0 ∨ a.1 ≤ x.toNatClampNeg then none else kt (a.2 x.toNatClampNeg)
  | none => none
def gsQ (μ : gM) (t i : Nat) (x : Int32) (v : Option Nat) (kt : gM → gR) : gR := match garQ μ t i with
  | some a => if x < 0 ∨ a.1 ≤ x.toNatClampNeg then none else kt (gset μ i (.inl (t, a.1, .inr (.inr (.inr (.inr (va_up a.2 x.toNatClampNeg v)))))))
  | none => none
/-- a reference that isn't null -/
def gnn (o : Option Nat) (kt : Nat → gR) : gR := match o with
  | some j => kt j
  | none => none
def gnl (o : Option Nat) (k0 : gR) (k1 : Nat → gR) : gR := match o with
  | some j => k1 j
  | none => k0
def gcp (μ : gM) (i : Nat) (sp : Int32) (j : Nat) (dp n : Int32) (kt : gM → gR) : gR := match garI μ 0 i, garI μ 0 j with
  | some a, some b => if sp < 0 ∨ dp < 0 ∨ n < 0 ∨ a.1 < sp.toNatClampNeg + n.toNatClampNeg ∨ b.1 < dp.toNatClampNeg + n.toNatClampNeg then none else kt (gset μ j (.inl (0, b.1, .inl (va_cpy a.2 b.2 sp.toNatClampNeg dp.toNatClampNeg n.toNatClampNeg))))
  | _, _ => none
def gnm {α : Type} (e : α) (kt : α → gR) : gR := kt e
def gne {α : Type} [DecidableEq α] (y z : α) (kt : gR) : gR := if y = z then none else kt
def cI (o : gR) (kt : Int32 → gM → gR) : gR := match o with
  | some (some (.int x), μ) => kt x μ
  | _ => none
def cJ (o : gR) (kt : Int64 → gM → gR) : gR := match o with
  | some (some (.long x), μ) => kt x μ
  | _ => none
def cP (o : gR) (kt : Nat → gM → gR) : gR := match o with
  | some (some (.ref x), μ) => kt x μ
  | _ => none
def cV (o : gR) (kt : gM → gR) : gR := match o with
  | some (none, μ) => kt μ
  | _ => none
/-- a boolean answer -/
def rZ (v : Int32) (μ : gM) : gR := if v &&& 1 = v then some (some (.int v), μ) else none
theorem gI_some {v : Option Value} {kt : Int32 → gR} {r : Option Value × gM} (h : gI v kt = some r) : ∃ x : Int32, v = some (.int x) ∧ kt x = some r := by
  unfold gI at h
  split at h
  · exact ⟨_, rfl, h⟩
  · cases h
theorem gJ_some {v : Option Value} {kt : Int64 → gR} {r : Option Value × gM} (h : gJ v kt = some r) : ∃ x : Int64, v = some (.long x) ∧ kt x = some r := by
  unfold gJ at h
  split at h
  · exact ⟨_, rfl, h⟩
  · cases h
theorem gP_some {v : Option Value} {kt : Nat → gR} {r : Option Value × gM} (h : gP v kt = some r) : ∃ x : Nat, v = some (.ref x) ∧ kt x = some r := by
  unfold gP at h
  split at h
  · exact ⟨_, rfl, h⟩
  · cases h
theorem gfld_some {μ : gM} {i c k : Nat} {v : Value} (h : gfld μ i c k = some v) : ∃ fs : List Value, μ.2 i = some (.inr (c, fs)) ∧ fs[k]? = some v := by
  unfold gfld at h
  split at h
  · rename_i o ho
    split at h
    · rename_i hc
      subst hc
      exact ⟨o.2, ho, h⟩
    · cases h
  · cases h
theorem gkld_some {μ : gM} {i k : Nat} {v : Value} (h : gkld μ i k = some v) : ∃ (c : Nat) (fs : List Value), 3 ≤ c ∧ c ≤ 8 ∧ μ.2 i = some (.inr (c, fs)) ∧ fs[k]? = some v := by
  unfold gkld at h
  split at h
  · rename_i o ho
    split at h
    · rename_i hc
      exact ⟨o.1, o.2, hc.1, hc.2, ho, h⟩
    · cases h
  · cases h
theorem gpf_some {μ : gM} {i c k : Nat} {v : Value} {kt : gM → gR} {r : Option Value × gM} (h : gpf μ i c k v kt = some r) : ∃ fs : List Value, μ.2 i = some (.inr (c, fs)) ∧ k < fs.length ∧ kt (gset μ i (.inr (c, fs.set k v))) = some r := by
  unfold gpf at h
  split at h
  · rename_i o ho
    split at h
    · rename_i hc
      obtain ⟨h1, h2⟩ := hc
      subst h1
      exact ⟨o.2, ho, h2, h⟩
    · cases h
  · cases h
theorem glv_some {μ : gM} {i : Nat} {kt : gR} {r : Option Value × gM} (h : glv μ i kt = some r) : (∃ e : gE, μ.2 i = some e) ∧ kt = some r := by
  unfold glv at h
  split at h
  · rename_i e he
    exact ⟨⟨e, he⟩, h⟩
  · cases h
theorem gis_some {μ : gM} {i c : Nat} {kt : gR} {r : Option Value × gM} (h : gis μ i c kt = some r) : (∃ fs : List Value, μ.2 i = some (.inr (c, fs))) ∧ kt = some r := by
  unfold gis at h
  split at h
  · rename_i o ho
    split at h
    · rename_i hc
      subst hc
      exact ⟨⟨o.2, ho⟩, h⟩
    · cases h
  · cases h
theorem garI_some {μ : gM} {t i : Nat} {a : Nat × (Nat → Int32)} (h : garI μ t i = some a) : μ.2 i = some (.inl (t, a.1, .inl a.2)) := by
  unfold garI at h
  split at h
  · rename_i b hb
    obtain ⟨t', n, x⟩ := b
    split at h
    · rename_i hc
      dsimp only at hc h
      subst hc
      split at h
      · cases h
        exact hb
      · cases h
    · cases h
  · cases h
theorem garQ_some {μ : gM} {t i : Nat} {a : Nat × (Nat → Option Nat)} (h : garQ μ t i = some a) : μ.2 i = some (.inl (t, a.1, .inr (.inr (.inr (.inr a.2))))) := by
  unfold garQ at h
  split at h
  · rename_i b hb
    obtain ⟨t', n, x⟩ := b
    split at h
    · rename_i hc
      dsimp only at hc h
      subst hc
      split at h
      · cases h
        exact hb
      · cases h
    · cases h
  · cases h
theorem gaI_some {μ : gM} {t i : Nat} {x : Int32} {kt : Int32 → gR} {r : Option Value × gM} (h : gaI μ t i x kt = some r) : ∃ (n : Nat) (f : Nat → Int32), μ.2 i = some (.inl (t, n, .inl f)) ∧ vp_in x n ∧ kt (f x.toNatClampNeg) = some r := by
  unfold gaI at h
  split at h
  · rename_i a ha
    split at h
    · cases h
    · rename_i hn
      exact ⟨a.1, a.2, garI_some ha, hn, h⟩
  · cases h
theorem gsI_some {μ : gM} {t i : Nat} {x v : Int32} {kt : gM → gR} {r : Option Value × gM} (h : gsI μ t i x v kt = some r) : ∃ (n : Nat) (f : Nat → Int32), μ.2 i = some (.inl (t, n, .inl f)) ∧ vp_in x n ∧ kt (gset μ i (.inl (t, n, .inl (upd f x.toNatClampNeg v)))) = some r := by
  unfold gsI at h
  split at h
  · rename_i a ha
    split at h
    · cases h
    · rename_i hn
      exact ⟨a.1, a.2, garI_some ha, hn, h⟩
  · cases h
theorem glen_some {μ : gM} {t i : Nat} {kt : Int32 → gR} {r : Option Value × gM} (h : glen μ t i kt = some r) : ∃ x : vp_A, μ.2 i = some (.inl (t, x)) ∧ kt (Int32.ofNat x.1) = some r := by
  unfold glen at h
  split at h
  · rename_i a ha
    split at h
    · rename_i hc
      subst hc
      exact ⟨a.2, ha, h⟩
    · cases h
  · cases h
theorem gaQ_some {μ : gM} {t i : Nat} {x : Int32} {kt : Option Nat → gR} {r : Option Value × gM} (h : gaQ μ t i x kt = some r) : ∃ (n : Nat) (f : Nat → Option Nat), μ.2 i = some (.inl (t, n, .inr (.inr (.inr (.inr f))))) ∧ vp_in x n ∧ kt (f x.toNatClampNeg) = some r := by
  unfold gaQ at h
  split at h
  · rename_i a ha
    split at h
    · cases h
    · rename_i hn
      exact ⟨a.1, a.2, garQ_some ha, hn, h⟩
  · cases h
theorem gsQ_some {μ : gM} {t i : Nat} {x : Int32} {v : Option Nat} {kt : gM → gR} {r : Option Value × gM} (h : gsQ μ t i x v kt = some r) : ∃ (n : Nat) (f : Nat → Option Nat), μ.2 i = some (.inl (t, n, .inr (.inr (.inr (.inr f))))) ∧ vp_in x n ∧ kt (gset μ i (.inl (t, n, .inr (.inr (.inr (.inr (va_up f x.toNatClampNeg v))))))) = some r := by
  unfold gsQ at h
  split at h
  · rename_i a ha
    split at h
    · cases h
    · rename_i hn
      exact ⟨a.1, a.2, garQ_some ha, hn, h⟩
  · cases h
theorem gcp_some {μ : gM} {i j : Nat} {sp dp n : Int32} {kt : gM → gR} {r : Option Value × gM} (h : gcp μ i sp j dp n kt = some r) : ∃ (n0 n1 : Nat) (f g : Nat → Int32), μ.2 i = some (.inl (0, n0, .inl f)) ∧ μ.2 j = some (.inl (0, n1, .inl g)) ∧ ¬ sp < 0 ∧ ¬ dp < 0 ∧ ¬ n < 0 ∧ sp.toNatClampNeg + n.toNatClampNeg ≤ n0 ∧ dp.toNatClampNeg + n.toNatClampNeg ≤ n1 ∧ kt (gset μ j (.inl (0, n1, .inl (va_cpy f g sp.toNatClampNeg dp.toNatClampNeg n.toNatClampNeg)))) = some r := by
  unfold gcp at h
  split at h
  · rename_i a b ha hb
    split at h
    · cases h
    · rename_i hn
      simp only [not_or, Nat.not_lt] at hn
      exact ⟨a.1, b.1, a.2, b.2, garI_some ha, garI_some hb, hn.1, hn.2.1, hn.2.2.1, hn.2.2.2.1, hn.2.2.2.2, h⟩
  · cases h
theorem gne_some {α : Type} [DecidableEq α] {y z : α} {kt : gR} {r : Option Value × gM} (h : gne y z kt = some r) : ¬ y = z ∧ kt = some r := by
  unfold gne at h
  split at h
  · cases h
  · rename_i hn
    exact ⟨hn, h⟩
theorem cI_some {o : gR} {kt : Int32 → gM → gR} {r : Option Value × gM} (h : cI o kt = some r) : ∃ (x : Int32) (μ : gM), o = some (some (.int x), μ) ∧ kt x μ = some r := by
  unfold cI at h
  split at h
  · exact ⟨_, _, rfl, h⟩
  · cases h
theorem cJ_some {o : gR} {kt : Int64 → gM → gR} {r : Option Value × gM} (h : cJ o kt = some r) : ∃ (x : Int64) (μ : gM), o = some (some (.long x), μ) ∧ kt x μ = some r := by
  unfold cJ at h
  split at h
  · exact ⟨_, _, rfl, h⟩
  · cases h
theorem cP_some {o : gR} {kt : Nat → gM → gR} {r : Option Value × gM} (h : cP o kt = some r) : ∃ (x : Nat) (μ : gM), o = some (some (.ref x), μ) ∧ kt x μ = some r := by
  unfold cP at h
  split at h
  · exact ⟨_, _, rfl, h⟩
  · cases h
theorem cV_some {o : gR} {kt : gM → gR} {r : Option Value × gM} (h : cV o kt = some r) : ∃ (μ : gM), o = some (none, μ) ∧ kt μ = some r := by
  unfold cV at h
  split at h
  · exact ⟨_, rfl, h⟩
  · cases h
theorem rZ_some {v : Int32} {μ : gM} {r : Option Value × gM} (h : rZ v μ = some r) : v &&& 1 = v ∧ (some (some (.int v), μ) : gR) = some r := by
  unfold rZ at h
  split at h
  · rename_i hn
    exact ⟨hn, h⟩
  · cases h
/-- a branch taken, not taken -/
theorem gif_t {q : Prop} [Decidable q] {a b : gR} {r : Option Value × gM} (h : (if q then a else b) = some r) (hq : q) : a = some r := by rw [if_pos hq] at h; exact h
theorem gif_f {q : Prop} [Decidable q] {a b : gR} {r : Option Value × gM} (h : (if q then a else b) = some r) (hq : ¬ q) : b = some r := by rw [if_neg hq] at h; exact h
