/-! MY ROWS 6: names of values, joins, nullable references, switches, keys -/
set_option maxRecDepth 100000
section GMORE
variable {p : Program} {l : Launch} {e : Env} {R : Room} {s : State} {m : MethodId} {args : Array Value} {below : List Frame} {meth : Method} {c : Code} {H : Heap} {locs : List Loc} {cells slots : Nat} {Q : State → Prop}
variable {cc : ByteArray} {pc nL : Nat} {ls : Array Slot} {rest st0 : List Value} {own : String} {Γ : gG} {A : Nat → Prop} {nz : Nat} {ad : Nat → Nat} {μ : gM} {r : Option Value × gM}
theorem r_nmk {α : Type} {x : α} {kt : α → gR} {G : Prop} (hf : gnm x kt = some r) (kk : ∀ y : α, y = x → kt y = some r → G) : G := kk x rfl hf
theorem r_nmI {x : Int32} {kt : Int32 → gR} (hf : gnm x kt = some r) (kk : ∀ y : Int32, kt y = some r → W p l e R s m args below meth c H locs cells slots Q (F0 m pc ls (.int y :: rest))) : W p l e R s m args below meth c H locs cells slots Q (F0 m pc ls (.int x :: rest)) := kk x hf
theorem r_nmJ {x : Int64} {kt : Int64 → gR} (hf : gnm x kt = some r) (kk : ∀ y : Int64, kt y = some r → W p l e R s m args below meth c H locs cells slots Q (F0 m pc ls (.long y :: rest))) : W p l e R s m args below meth c H locs cells slots Q (F0 m pc ls (.long x :: rest)) := kk x hf
/-- a code point that several roads come to -/
def gjn {α : Type} (f : α) (k : α → gR) : gR := k f
theorem r_jn {α : Type} {f : α} {k : α → gR} {G : Prop} (hf : gjn f k = some r) (kk : ∀ j : α, j = f → k j = some r → G) : G := kk f rfl hf
/-- an int array is there; a key is there -/
def gha (μ : gM) (t i : Nat) (kt : gR) : gR := match garI μ t i with
  | some _ => kt
  | none => none
theorem gha_some {t i : Nat} {kt : gR} (h : gha μ t i kt = some r) : (∃ (n : Nat) (f : Nat → Int32), μ.2 i = some (.inl (t, n, .inl f))) ∧ kt = some r := by
  unfold gha at h
  split at h
  · rename_i a ha
    exact ⟨⟨a.1, a.2, garI_some ha⟩, h⟩
  · cases h
/-- the class of a key -/
def gkc (μ : gM) (i : Nat) (kt : Nat → gR) : gR := match μ.2 i with
  | some (.inr o) => kt o.1
  | _ => none
theorem gkc_some {i : Nat} {kt : Nat → gR} (h : gkc μ i kt = some r) : ∃ (c : Nat) (fs : List Value), μ.2 i = some (.inr (c, fs)) ∧ kt c = some r := by
  unfold gkc at h
  split at h
  · rename_i o ho
    exact ⟨o.1, o.2, ho, h⟩
  · cases h
def gik (μ : gM) (i : Nat) (kt : gR) : gR := gkc μ i fun c => if 3 ≤ c ∧ c ≤ 8 then kt else none
theorem gik_some {i : Nat} {kt : gR} (h : gik μ i kt = some r) : (∃ (c : Nat) (fs : List Value), 3 ≤ c ∧ c ≤ 8 ∧ μ.2 i = some (.inr (c, fs))) ∧ kt = some r := by
  obtain ⟨c, fs, he, hk⟩ := gkc_some h
  by_cases hc : 3 ≤ c ∧ c ≤ 8
  · rw [if_pos hc] at hk
    exact ⟨⟨c, fs, hc.1, hc.2, he⟩, hk⟩
  · rw [if_neg hc] at hk
    cases hk
theorem r_astK (X : gX p m c cc nL s args own Γ A) (h : gWd Γ A nz ad μ s.heap H locs) {i v : Nat} {x : Int32} {kt : gM → gR} (hv : ∃ (c : Nat) (fs : List Value), 3 ≤ c ∧ c ≤ 8 ∧ μ.2 v = some (.inr (c, fs))) (d : decode cc pc = .ok (.aastore, 1)) (hf : gsQ μ 5 i x (some v) kt = some r)
    (kk : ∀ (μ1 : gM) (H1 : Heap) (locs1 : List Loc), kt μ1 = some r → gWd Γ A nz ad μ1 s.heap H1 locs1 → W p l e R s m args below meth c H1 locs1 cells slots Q (F0 m (pc + 1) ls rest)) : W p l e R s m args below meth c H locs cells slots Q (F0 m pc ls (.ref (ad v) :: .int x :: .ref (ad i) :: rest)) := by
  obtain ⟨ci, fs, g1, g2, he⟩ := hv
  have hN := X.2.1.2.1
  rcases (show ci = 3 ∨ ci = 4 ∨ ci = 5 ∨ ci = 6 ∨ ci = 7 ∨ ci = 8 by omega) with rfl | rfl | rfl | rfl | rfl | rfl
  · exact r_astO X h (E := "SandPiano$Key") rfl he (T := TX3) rfl (Or.inl rfl) d hf kk
  · exact r_astO X h (E := "SandPiano$Key") rfl he (T := TX4) rfl (Or.inr (hN 16 _ rfl)) d hf kk
  · exact r_astO X h (E := "SandPiano$Key") rfl he (T := TX5) rfl (Or.inr (hN 17 _ rfl)) d hf kk
  · exact r_astO X h (E := "SandPiano$Key") rfl he (T := TX6) rfl (Or.inr (hN 18 _ rfl)) d hf kk
  · exact r_astO X h (E := "SandPiano$Key") rfl he (T := TX7) rfl (Or.inr (hN 19 _ rfl)) d hf kk
  · exact r_astO X h (E := "SandPiano$Key") rfl he (T := TX8) rfl (Or.inr (hN 20 _ rfl)) d hf kk
/-! nullable references -/
theorem r_aloadQn (hx : p.tables.exec = Jvm.exec) (hb : c.code = cc) {k : Fin 4} {i : Nat} {o : Option Nat} (d : decode cc pc = .ok (.aload_n k, 1)) (hi : (k : Nat) = i) (hl : ls[i]? = some (.val (va_rf o)))
    (kk : W p l e R s m args below meth c H locs cells slots Q (F0 m (pc + 1) ls (va_rf o :: rest))) : W p l e R s m args below meth c H locs cells slots Q (F0 m pc ls rest) := by
  cases o with
  | none => exact lv_aload_nN hx hb d hi hl kk
  | some x => exact lv_aload_n hx hb d hi hl kk
theorem r_aloadQ (hx : p.tables.exec = Jvm.exec) (hb : c.code = cc) {i : Nat} {o : Option Nat} (d : decode cc pc = .ok (.aload i, 2)) (hl : ls[i]? = some (.val (va_rf o)))
    (kk : W p l e R s m args below meth c H locs cells slots Q (F0 m (pc + 2) ls (va_rf o :: rest))) : W p l e R s m args below meth c H locs cells slots Q (F0 m pc ls rest) := by
  cases o with
  | none => exact lv_aloadN hx hb d hl kk
  | some x => exact lv_aload hx hb d hl kk
theorem r_astoreQn (hx : p.tables.exec = Jvm.exec) (hb : c.code = cc) {k : Fin 4} {i nL : Nat} {o : Option Nat} {lv lv' : List (Nat × Value)} (d : decode cc pc = .ok (.astore_n k, 1)) (hi : (k : Nat) = i) (h : lv_has ls nL lv) (hn : i < nL) (hl : (i, va_rf o) :: lv.filter (fun q => !(q.1 == i) && !(q.1 + 1 == i && q.2.category == 2)) = lv')
    (kk : ∀ ls' : Array Slot, lv_has ls' nL lv' → W p l e R s m args below meth c H locs cells slots Q (F0 m (pc + 1) ls' rest)) : W p l e R s m args below meth c H locs cells slots Q (F0 m pc ls (va_rf o :: rest)) := by
  cases o with
  | none => exact lv_astore_nN hx hb d hi h hn hl kk
  | some x => exact lv_astore_n hx hb d hi h hn hl kk
theorem r_astoreQ (hx : p.tables.exec = Jvm.exec) (hb : c.code = cc) {i nL : Nat} {o : Option Nat} {lv lv' : List (Nat × Value)} (d : decode cc pc = .ok (.astore i, 2)) (h : lv_has ls nL lv) (hn : i < nL) (hl : (i, va_rf o) :: lv.filter (fun q => !(q.1 == i) && !(q.1 + 1 == i && q.2.category == 2)) = lv')
    (kk : ∀ ls' : Array Slot, lv_has ls' nL lv' → W p l e R s m args below meth c H locs cells slots Q (F0 m (pc + 2) ls' rest)) : W p l e R s m args below meth c H locs cells slots Q (F0 m pc ls (va_rf o :: rest)) := by
  cases o with
  | none => exact lv_astoreN hx hb d h hn hl kk
  | some x => exact lv_astore hx hb d h hn hl kk
/-- null or not -/
def gnu (o : Option Nat) (k0 k1 : gR) : gR := match o with
  | some _ => k1
  | none => k0
theorem r_ifnn (hx : p.tables.exec = Jvm.exec) (hb : c.code = cc) {o : Option Nat} {k0 k1 : gR} {off : Int} {tgt : Nat} (d : decode cc pc = .ok (.ifnonnull off, 3)) (ht : (pc : Int) + off = (tgt : Int)) (hf : gnu o k0 k1 = some r)
    (kt : k1 = some r → W p l e R s m args below meth c H locs cells slots Q (F0 m tgt ls rest)) (kn : k0 = some r → W p l e R s m args below meth c H locs cells slots Q (F0 m (pc + 3) ls rest)) : W p l e R s m args below meth c H locs cells slots Q (F0 m pc ls (va_rf (o.map ad) :: rest)) := by
  cases o with
  | none => exact lv_ifnonnullN hx hb d (kn hf)
  | some x => exact lv_ifnonnull hx hb d ht (kt hf)
theorem r_ifnu (hx : p.tables.exec = Jvm.exec) (hb : c.code = cc) {o : Option Nat} {k0 k1 : gR} {off : Int} {tgt : Nat} (d : decode cc pc = .ok (.ifnull off, 3)) (ht : (pc : Int) + off = (tgt : Int)) (hf : gnu o k0 k1 = some r)
    (kt : k0 = some r → W p l e R s m args below meth c H locs cells slots Q (F0 m tgt ls rest)) (kn : k1 = some r → W p l e R s m args below meth c H locs cells slots Q (F0 m (pc + 3) ls rest)) : W p l e R s m args below meth c H locs cells slots Q (F0 m pc ls (va_rf (o.map ad) :: rest)) := by
  cases o with
  | none => exact lv_ifnullN hx hb d ht (kt hf)
  | some x => exact lv_ifnull hx hb d (kn hf)
end GMORE
