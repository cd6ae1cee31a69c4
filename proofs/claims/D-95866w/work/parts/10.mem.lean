/-! MY ROWS 1: the abstract memory (cells by number), the worlds that hold it -/
set_option maxRecDepth 100000
abbrev gE : Type := (Nat × vp_A) ⊕ (Nat × List Value)
abbrev gM : Type := Nat × (Nat → Option gE)
abbrev gR : Type := Option (Option Value × gM)
abbrev gG : Type := va_G × (Nat → ClassId)
abbrev gCl : List vw_C := [(RX0, TX0, 36), (RX1, TX1, 1), (RX2, TX2, 36), (RX3, TX3, 3), (RX4, TX4, 3), (RX5, TX5, 3), (RX6, TX6, 3), (RX7, TX7, 3), (RX8, TX8, 3), (RX9, TX9, 4)]
/-- the array kinds by their tags -/
def gTy (d : Nat → ClassId) : List (ClassId × FieldType) := [(d 0, .int), (d 1, .byte), (d 2, .boolean), (d 3, .array .int), (d 4, .array .byte), (d 5, .object "SandPiano$Key"), (d 6, .object "SandPiano$Kept"), (d 7, .object "SandPiano$Sands")]
/-- a value of the memory, its references being numbers, as the machine has it -/
def gv (ad : Nat → Nat) (v : Value) : Value := match v with
  | .ref a => .ref (ad a)
  | w => w
def gx (ad : Nat → Nat) (x : (Nat → Int32) ⊕ (Nat → Int64) ⊕ (Nat → UInt32) ⊕ (Nat → UInt64) ⊕ (Nat → Option Nat)) : (Nat → Int32) ⊕ (Nat → Int64) ⊕ (Nat → UInt32) ⊕ (Nat → UInt64) ⊕ (Nat → Option Nat) := match x with
  | .inr (.inr (.inr (.inr g))) => .inr (.inr (.inr (.inr (fun j => (g j).map ad))))
  | y => y
def gc (Γ : gG) (ad : Nat → Nat) (e : gE) : va_E := match e with
  | .inl a => .inl (Γ.2 a.1, a.2.1, gx ad a.2.2)
  | .inr o => .inr (o.1, o.2.map (gv ad))
/-- a cell's references are below n -/
def gcl (n : Nat) (e : gE) : Prop := match e with
  | .inl a => (match a.2.2 with
    | .inr (.inr (.inr (.inr g))) => ∀ j k : Nat, g j = some k → k < n
    | _ => True)
  | .inr o => ∀ v ∈ o.2, ∀ j : Nat, v = .ref j → j < n
theorem gu_self {α : Type} {f : Nat → α} {k : Nat} {v : α} : va_up f k v k = v := if_pos rfl
theorem gu_ne {α : Type} {f : Nat → α} {k : Nat} {v : α} {j : Nat} (h : j ≠ k) : va_up f k v j = f j := if_neg h
def gset (μ : gM) (i : Nat) (e : gE) : gM := (μ.1, va_up μ.2 i (some e))
def gnew (μ : gM) (e : gE) : gM := (μ.1 + 1, va_up μ.2 μ.1 (some e))
/-- the heap H holds the memory μ at the addresses ad, all in A; since H0 nothing outside A has changed -/
def gWd (Γ : gG) (A : Nat → Prop) (nz : Nat) (ad : Nat → Nat) (μ : gM) (H0 H : Heap) (locs : List Loc) : Prop :=
  (∀ (i : Nat) (e : gE), μ.2 i = some e → i < μ.1 ∧ gcl μ.1 e ∧ va_at Γ.1 gCl (ad i, gc Γ ad e) H ∧ A (ad i)) ∧
  (∀ (i j : Nat) (e f : gE), μ.2 i = some e → μ.2 j = some f → ad i = ad j → i = j) ∧ va_S A H0 H locs ∧ nz ≤ μ.1
def gws (Γ : gG) (ad : Nat → Nat) (μ : gM) : va_W := (List.range μ.1).filterMap (fun i => (μ.2 i).map (fun e => (ad i, gc Γ ad e)))
theorem gws_of {Γ : gG} {ad : Nat → Nat} {μ : gM} {q : Nat} {x : Nat × va_E} (h : (gws Γ ad μ)[q]? = some x) : ∃ (i : Nat) (e : gE), i < μ.1 ∧ μ.2 i = some e ∧ x = (ad i, gc Γ ad e) := by
  obtain ⟨i, hi, he⟩ := List.mem_filterMap.mp (List.mem_of_getElem? h)
  cases hm : μ.2 i with
  | none => rw [hm] at he; cases he
  | some e =>
    rw [hm] at he
    exact ⟨i, e, List.mem_range.mp hi, hm, (Option.some.inj he).symm⟩
theorem gws_at {Γ : gG} {ad : Nat → Nat} {μ : gM} {i : Nat} {e : gE} (h : μ.2 i = some e) (hi : i < μ.1) : ∃ q : Nat, (gws Γ ad μ)[q]? = some (ad i, gc Γ ad e) := by
  refine List.getElem?_of_mem (List.mem_filterMap.mpr ⟨i, List.mem_range.mpr hi, ?_⟩)
  rw [h]
  rfl
theorem gWd.P {Γ : gG} {A : Nat → Prop} {nz : Nat} {ad : Nat → Nat} {μ : gM} {H0 H : Heap} {locs : List Loc} (h : gWd Γ A nz ad μ H0 H locs) : va_P Γ.1 gCl (gws Γ ad μ) H := by
  intro q x hq
  obtain ⟨i, e, -, he, rfl⟩ := gws_of hq
  exact (h.1 i e he).2.2.1
theorem gWd.D {Γ : gG} {A : Nat → Prop} {nz : Nat} {ad : Nat → Nat} {μ : gM} {H0 H : Heap} {locs : List Loc} (h : gWd Γ A nz ad μ H0 H locs) : va_D A (gws Γ ad μ) := by
  have hp : (gws Γ ad μ).Pairwise (fun x y => x.1 ≠ y.1) := by
    unfold gws
    rw [List.pairwise_filterMap]
    refine List.Pairwise.imp ?_ (List.pairwise_lt_range (n := μ.1))
    intro i j hij x hx y hy hxy
    cases hi : μ.2 i with
    | none => rw [hi] at hx; cases hx
    | some e =>
      cases hj : μ.2 j with
      | none => rw [hj] at hy; cases hy
      | some f =>
        rw [hi] at hx
        rw [hj] at hy
        cases hx
        cases hy
        have := h.2.1 i j e f hi hj hxy
        omega
  refine ⟨fun i j x y hi hj hxy => ?_, fun q x hq => ?_⟩
  · obtain ⟨h1, h2⟩ := List.getElem?_eq_some_iff.mp hi
    obtain ⟨h3, h4⟩ := List.getElem?_eq_some_iff.mp hj
    have hpw := List.pairwise_iff_getElem.mp hp
    rcases Nat.lt_trichotomy i j with hl | hl | hl
    · exact absurd (by rw [h2, h4]; exact hxy) (hpw i j h1 h3 hl)
    · exact hl
    · exact absurd (by rw [h2, h4]; exact hxy.symm) (hpw j i h3 h1 hl)
  · obtain ⟨i, e, -, he, rfl⟩ := gws_of hq
    exact (h.1 i e he).2.2.2
theorem gWd.at {Γ : gG} {A : Nat → Prop} {nz : Nat} {ad : Nat → Nat} {μ : gM} {H0 H : Heap} {locs : List Loc} (h : gWd Γ A nz ad μ H0 H locs) {i : Nat} {e : gE} (hi : μ.2 i = some e) : ∃ q : Nat, (gws Γ ad μ)[q]? = some (ad i, gc Γ ad e) := gws_at hi (h.1 i e hi).1
theorem gup_self {μ : gM} {i : Nat} {e : gE} : (gset μ i e).2 i = some e := gu_self
theorem gup_ne {μ : gM} {i j : Nat} {e : gE} (h : j ≠ i) : (gset μ i e).2 j = μ.2 j := gu_ne h
theorem gWd.set {Γ : gG} {A : Nat → Prop} {nz : Nat} {ad : Nat → Nat} {μ : gM} {H0 H H1 : Heap} {locs locs1 : List Loc} (h : gWd Γ A nz ad μ H0 H locs) {i q : Nat} {e e' : gE} {x : va_E} (hi : μ.2 i = some e) (hq : (gws Γ ad μ)[q]? = some (ad i, gc Γ ad e)) (hx : x = gc Γ ad e') (hcl : gcl μ.1 e')
    (hP : va_P Γ.1 gCl ((gws Γ ad μ).set q (ad i, x)) H1) (hS : va_S A H0 H1 locs1) : gWd Γ A nz ad (gset μ i e') H0 H1 locs1 := by
  subst hx
  have hl := (List.getElem?_eq_some_iff.mp hq).1
  refine ⟨fun j f hj => ?_, fun j k f g hj hk => ?_, hS, h.2.2.2⟩
  · by_cases hji : j = i
    · subst hji
      rw [gup_self] at hj
      cases hj
      exact ⟨(h.1 j e hi).1, hcl, hP q _ (List.getElem?_set_self hl), (h.1 j e hi).2.2.2⟩
    · rw [gup_ne hji] at hj
      obtain ⟨h1, h2, -, h4⟩ := h.1 j f hj
      refine ⟨h1, h2, ?_, h4⟩
      obtain ⟨q', hq'⟩ := h.at hj
      have hne : q' ≠ q := by
        intro hqq
        subst hqq
        rw [hq] at hq'
        exact hji (h.2.1 j i f e hj hi (Prod.mk.inj (Option.some.inj hq')).1.symm)
      exact hP q' _ (by rw [List.getElem?_set_ne (Ne.symm hne)]; exact hq')
  · have key : ∀ (j : Nat) (f : gE), (gset μ i e').2 j = some f → ∃ f', μ.2 j = some f' := by
      intro j f hj
      by_cases hji : j = i
      · subst hji
        exact ⟨e, hi⟩
      · rw [gup_ne hji] at hj
        exact ⟨f, hj⟩
    obtain ⟨f', hf'⟩ := key j f hj
    obtain ⟨g', hg'⟩ := key k g hk
    exact h.2.1 j k f' g' hf' hg'
theorem gcl_mono {n m : Nat} {e : gE} (h : gcl n e) (hnm : n ≤ m) : gcl m e := by
  cases e with
  | inl a =>
    obtain ⟨t, k, x⟩ := a
    rcases x with f | f | f | f | g
    · trivial
    · trivial
    · trivial
    · trivial
    · intro j k hk
      exact Nat.lt_of_lt_of_le (h j k hk) hnm
  | inr o =>
    intro v hv j hj
    exact Nat.lt_of_lt_of_le (h v hv j hj) hnm
theorem gv_up {ad : Nat → Nat} {n q : Nat} {v : Value} (h : ∀ j : Nat, v = .ref j → j < n) : gv (va_up ad n q) v = gv ad v := by
  cases v <;> first | rfl | (rename_i j; show Value.ref _ = Value.ref _; rw [gu_ne (Nat.ne_of_lt (h j rfl))])
theorem gc_up {Γ : gG} {ad : Nat → Nat} {n q : Nat} {e : gE} (h : gcl n e) : gc Γ (va_up ad n q) e = gc Γ ad e := by
  cases e with
  | inl a =>
    obtain ⟨t, k, x⟩ := a
    rcases x with f | f | f | f | g
    · rfl
    · rfl
    · rfl
    · rfl
    · show Sum.inl (Γ.2 t, k, Sum.inr (Sum.inr (Sum.inr (Sum.inr _)))) = Sum.inl (Γ.2 t, k, Sum.inr (Sum.inr (Sum.inr (Sum.inr _))))
      congr 7
      funext j
      cases hg : g j with
      | none => rfl
      | some k =>
        show some _ = some _
        rw [gu_ne (Nat.ne_of_lt (h j k hg))]
  | inr o =>
    obtain ⟨c, fs⟩ := o
    show Sum.inr (c, fs.map _) = Sum.inr (c, fs.map _)
    congr 2
    exact List.map_congr_left (fun v hv => gv_up (h v hv))
theorem gWd.push {Γ : gG} {A : Nat → Prop} {nz : Nat} {ad : Nat → Nat} {μ : gM} {H0 H H1 : Heap} {locs locs1 : List Loc} (h : gWd Γ A nz ad μ H0 H locs) {a : Nat} {e : gE} {x : va_E} (hx : x = gc Γ ad e) (hcl : gcl μ.1 e)
    (hP : va_P Γ.1 gCl (gws Γ ad μ ++ [(a, x)]) H1) (hD : va_D A (gws Γ ad μ ++ [(a, x)])) (hS : va_S A H0 H1 locs1) : gWd Γ A nz (va_up ad μ.1 a) (gnew μ e) H0 H1 locs1 := by
  subst hx
  have hlast : (gws Γ ad μ ++ [(a, gc Γ ad e)])[(gws Γ ad μ).length]? = some (a, gc Γ ad e) := by
    rw [List.getElem?_append_right (Nat.le_refl _), Nat.sub_self]
    rfl
  have hold : ∀ (j : Nat) (f : gE), j ≠ μ.1 → (gnew μ e).2 j = some f → μ.2 j = some f := fun j f hj hf => by
    have : (gnew μ e).2 j = μ.2 j := gu_ne hj
    rw [← this]
    exact hf
  have hnewv : ∀ f : gE, (gnew μ e).2 μ.1 = some f → f = e := fun f hf => by
    have : (gnew μ e).2 μ.1 = some e := gu_self
    rw [this] at hf
    exact (Option.some.inj hf).symm
  have hpos : ∀ (j : Nat) (f : gE), μ.2 j = some f → ∃ q : Nat, q < (gws Γ ad μ).length ∧ (gws Γ ad μ ++ [(a, gc Γ ad e)])[q]? = some (ad j, gc Γ ad f) := by
    intro j f hf
    obtain ⟨q, hq⟩ := h.at hf
    have hl := (List.getElem?_eq_some_iff.mp hq).1
    exact ⟨q, hl, by rw [List.getElem?_append_left hl]; exact hq⟩
  have hap : ∀ (j : Nat) (f : gE), μ.2 j = some f → ad j ≠ a := by
    intro j f hf hja
    obtain ⟨q, hl, hq⟩ := hpos j f hf
    have := hD.1 q (gws Γ ad μ).length _ _ hq hlast hja
    omega
  refine ⟨fun j f hj => ?_, fun j k f g hj hk hjk => ?_, hS, Nat.le_succ_of_le h.2.2.2⟩
  · by_cases hji : j = μ.1
    · subst hji
      have := hnewv f hj
      subst this
      refine ⟨Nat.lt_succ_self _, gcl_mono hcl (Nat.le_succ _), ?_, ?_⟩
      · rw [gc_up hcl]
        show va_at Γ.1 gCl (va_up ad μ.1 a μ.1, _) H1
        rw [gu_self]
        exact hP _ _ hlast
      · rw [gu_self]
        exact hD.2 _ _ hlast
    · have hf := hold j f hji hj
      obtain ⟨h1, h2, -, h4⟩ := h.1 j f hf
      obtain ⟨q, -, hq⟩ := hpos j f hf
      refine ⟨Nat.lt_succ_of_lt h1, gcl_mono h2 (Nat.le_succ _), ?_, ?_⟩
      · rw [gc_up h2, gu_ne hji]
        exact hP _ _ hq
      · rw [gu_ne hji]
        exact h4
  · by_cases hji : j = μ.1
    · by_cases hki : k = μ.1
      · omega
      · have hg := hold k g hki hk
        rw [hji, gu_self, gu_ne hki] at hjk
        exact absurd hjk.symm (hap k g hg)
    · have hf := hold j f hji hj
      by_cases hki : k = μ.1
      · rw [hki, gu_self, gu_ne hji] at hjk
        exact absurd hjk (hap j f hf)
      · have hg := hold k g hki hk
        rw [gu_ne hji, gu_ne hki] at hjk
        exact h.2.1 j k f g hf hg hjk
/-- which addresses a method may change: those of its memory, and new ones -/
def gA (ad : Nat → Nat) (μ : gM) (sz : Nat) : Nat → Prop := fun q => (∃ (i : Nat) (e : gE), μ.2 i = some e ∧ ad i = q) ∨ sz ≤ q
theorem gWd.self {Γ : gG} {A : Nat → Prop} {nz : Nat} {ad : Nat → Nat} {μ : gM} {H0 H : Heap} {locs : List Loc} (h : gWd Γ A nz ad μ H0 H locs) (sz : Nat) : gWd Γ (gA ad μ sz) μ.1 ad μ H H [] :=
  ⟨fun i e he => ⟨(h.1 i e he).1, (h.1 i e he).2.1, (h.1 i e he).2.2.1, Or.inl ⟨i, e, he, rfl⟩⟩, h.2.1, va_S.rf, Nat.le_refl _⟩
theorem gWd.top {Γ : gG} {A : Nat → Prop} {nz : Nat} {ad : Nat → Nat} {μ : gM} {H0 H : Heap} {locs : List Loc} (h : gWd Γ A nz ad μ H0 H locs) : gWd Γ (fun _ => True) 0 ad μ H H [] :=
  ⟨fun i e he => ⟨(h.1 i e he).1, (h.1 i e he).2.1, (h.1 i e he).2.2.1, trivial⟩, h.2.1, va_S.rf, Nat.zero_le _⟩
theorem gWd.free {Γ : gG} {A : Nat → Prop} {nz : Nat} {ad : Nat → Nat} {μ : gM} {H0 H : Heap} {locs : List Loc} (h : gWd Γ A nz ad μ H0 H locs) (hA : ∀ q, H0.size ≤ q → A q) : ∀ q, gA ad μ H.size q → A q := by
  intro q hq
  rcases hq with ⟨i, e, he, rfl⟩ | hq
  · exact (h.1 i e he).2.2.2
  · exact hA q (Nat.le_trans h.2.2.1.1 hq)
/-- what came back of a call, in its caller's world -/
theorem gWd.back {Γ : gG} {A A1 : Nat → Prop} {n1 nz : Nat} {ad : Nat → Nat} {μ : gM} {H0 H H1 : Heap} {locs1 : List Loc} (h : gWd Γ A1 n1 ad μ H H1 []) (hz : nz ≤ n1) (hF : ∀ q, A1 q → A q) (hS : va_S A H0 H1 locs1) : gWd Γ A nz ad μ H0 H1 locs1 :=
  ⟨fun i e he => ⟨(h.1 i e he).1, (h.1 i e he).2.1, (h.1 i e he).2.2.1, hF _ (h.1 i e he).2.2.2⟩, h.2.1, hS, Nat.le_trans hz h.2.2.2⟩
