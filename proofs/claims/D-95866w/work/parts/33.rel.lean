/-! MY ROWS 33: how the two memories answer to one another -/
set_option maxRecDepth 100000
/-- what is scratch in the model's memory -/
def jI (k : Nat) : Bool := k == 15 || k == 16 || k == 17 || k == 18 || k == 30 || k == 31 || k == 32 || k == 33
def jL (k : Nat) : Bool := k == 35
def jA (k : Nat) : Bool := k == 4 || k == 18 || k == 19
def jB (k : Nat) : Bool := k == 10 || k == 11 || k == 20
def sameM (I : Nat → Int32) (L : Nat → Int64) (A : Nat → Nat → Int32) (B : Nat → Nat → Nat → Int32) (I' : Nat → Int32) (L' : Nat → Int64) (A' : Nat → Nat → Int32) (B' : Nat → Nat → Nat → Int32) : Prop :=
  (∀ k, jI k = false → I' k = I k) ∧ (∀ k, jL k = false → L' k = L k) ∧ (∀ k, jA k = false → A' k = A k) ∧ (∀ k, jB k = false → B' k = B k) ∧ e9 (B' 11 0) (B 11 0)
/-- what is scratch in the component's -/
def yI (k : Nat) : Bool := k == 12 || k == 13 || k == 14 || k == 28 || k == 29 || k == 31 || k == 32 || k == 33
def yL (k : Nat) : Bool := k == 34 || k == 35
def yA (k : Nat) : Bool := !(k == 1 || k == 6 || k == 11)
def sameX (J : Nat → Int32) (K : Nat → Int64) (a : Nat → Nat → Int32) (J' : Nat → Int32) (K' : Nat → Int64) (a' : Nat → Nat → Int32) : Prop :=
  (∀ k, yI k = false → J' k = J k) ∧ (∀ k, yL k = false → K' k = K k) ∧ (∀ k, yA k = false → a' k = a k)
section SAME
variable {I I' I'' J J' J'' : Nat → Int32} {L L' L'' K K' K'' : Nat → Int64} {A A' A'' a a' a'' : Nat → Nat → Int32} {B B' B'' : Nat → Nat → Nat → Int32}
theorem sameM.refl : sameM I L A B I L A B := ⟨fun _ _ => rfl, fun _ _ => rfl, fun _ _ => rfl, fun _ _ => rfl, e9.refl _⟩
theorem sameM.trans (h : sameM I L A B I' L' A' B') (g : sameM I' L' A' B' I'' L'' A'' B'') : sameM I L A B I'' L'' A'' B'' :=
  ⟨fun k q => (g.1 k q).trans (h.1 k q), fun k q => (g.2.1 k q).trans (h.2.1 k q), fun k q => (g.2.2.1 k q).trans (h.2.2.1 k q), fun k q => (g.2.2.2.1 k q).trans (h.2.2.2.1 k q), g.2.2.2.2.trans h.2.2.2.2⟩
theorem sameX.refl : sameX J K a J K a := ⟨fun _ _ => rfl, fun _ _ => rfl, fun _ _ => rfl⟩
theorem sameX.trans (h : sameX J K a J' K' a') (g : sameX J' K' a' J'' K'' a'') : sameX J K a J'' K'' a'' :=
  ⟨fun k q => (g.1 k q).trans (h.1 k q), fun k q => (g.2.1 k q).trans (h.2.1 k q), fun k q => (g.2.2 k q).trans (h.2.2 k q)⟩
theorem up_same {α : Type} {f : Nat → α} {c : Nat} {v : α} {j : Nat → Bool} (h : j c = true) : ∀ k, j k = false → va_up f c v k = f k := fun k q => va_upn (fun e => by rw [e, h] at q; cases q)
theorem sameM.uI (h : sameM I L A B I' L' A' B') {c : Nat} {v : Int32} (hc : jI c = true) : sameM I L A B (va_up I' c v) L' A' B' :=
  ⟨fun k q => (up_same hc k q).trans (h.1 k q), h.2⟩
theorem sameM.uL (h : sameM I L A B I' L' A' B') {c : Nat} {v : Int64} (hc : jL c = true) : sameM I L A B I' (va_up L' c v) A' B' :=
  ⟨h.1, fun k q => (up_same hc k q).trans (h.2.1 k q), h.2.2⟩
theorem sameM.uA (h : sameM I L A B I' L' A' B') {c : Nat} {v : Nat → Int32} (hc : jA c = true) : sameM I L A B I' L' (va_up A' c v) B' :=
  ⟨h.1, h.2.1, fun k q => (up_same hc k q).trans (h.2.2.1 k q), h.2.2.2⟩
theorem sameM.uB (h : sameM I L A B I' L' A' B') {c : Nat} {v : Nat → Nat → Int32} (hc : jB c = true) (h11 : c = 11 → e9 (v 0) (B 11 0)) : sameM I L A B I' L' A' (va_up B' c v) :=
  ⟨h.1, h.2.1, h.2.2.1, fun k q => (up_same hc k q).trans (h.2.2.2.1 k q), by
    rw [va_upa]
    split
    · rename_i e
      exact h11 e.symm
    · exact h.2.2.2.2⟩
theorem sameM.uF (h : sameM I L A B I' L' A' B') {f : Nat} {v : Nat → Int32} (hf : f ≠ 0) : sameM I L A B I' L' A' (va_up B' 11 (va_up (B' 11) f v)) :=
  h.uB rfl (fun _ => by rw [va_upn (Ne.symm hf)]; exact h.2.2.2.2)
theorem sameX.uI (h : sameX J K a J' K' a') {c : Nat} {v : Int32} (hc : yI c = true) : sameX J K a (va_up J' c v) K' a' :=
  ⟨fun k q => (up_same hc k q).trans (h.1 k q), h.2⟩
theorem sameX.uL (h : sameX J K a J' K' a') {c : Nat} {v : Int64} (hc : yL c = true) : sameX J K a J' (va_up K' c v) a' :=
  ⟨h.1, fun k q => (up_same hc k q).trans (h.2.1 k q), h.2.2⟩
theorem sameX.uA (h : sameX J K a J' K' a') {c : Nat} {v : Nat → Int32} (hc : yA c = true) : sameX J K a J' K' (va_up a' c v) :=
  ⟨h.1, h.2.1, fun k q => (up_same hc k q).trans (h.2.2 k q)⟩
end SAME
/-- sand: none below nothing, not too much -/
def sm (p : Nat → Int32) : Int := (p 0).toInt + (p 1).toInt + (p 2).toInt + (p 3).toInt + (p 4).toInt + (p 5).toInt + (p 6).toInt
def sOK (bd : Nat) (p : Nat → Int32) : Prop := (∀ i, i < 7 → 0 ≤ (p i).toInt) ∧ sm p ≤ bd
theorem i7 {i : Nat} (h : i < 7) : i = 0 ∨ i = 1 ∨ i = 2 ∨ i = 3 ∨ i = 4 ∨ i = 5 ∨ i = 6 := by omega
theorem sOK.le {bd i : Nat} {p : Nat → Int32} (h : sOK bd p) (hi : i < 7) : (p i).toInt ≤ bd := by
  have h0 := h.1 0 (by omega)
  have h1 := h.1 1 (by omega)
  have h2 := h.1 2 (by omega)
  have h3 := h.1 3 (by omega)
  have h4 := h.1 4 (by omega)
  have h5 := h.1 5 (by omega)
  have h6 := h.1 6 (by omega)
  have hs := h.2
  unfold sm at hs
  rcases i7 hi with rfl | rfl | rfl | rfl | rfl | rfl | rfl <;> omega
theorem sOK.mono {bd bd' : Nat} {p : Nat → Int32} (h : sOK bd p) (hb : bd ≤ bd') : sOK bd' p := ⟨h.1, by have := h.2; omega⟩
theorem sOK.e {bd : Nat} {p q : Nat → Int32} (h : sOK bd p) (e : ∀ i, i < 7 → p i = q i) : sOK bd q := by
  refine ⟨fun i hi => by rw [← e i hi]; exact h.1 i hi, ?_⟩
  have hs := h.2
  unfold sm at hs ⊢
  rw [← e 0 (by omega), ← e 1 (by omega), ← e 2 (by omega), ← e 3 (by omega), ← e 4 (by omega), ← e 5 (by omega), ← e 6 (by omega)]
  exact hs
theorem sm_up {p : Nat → Int32} {k : Nat} (hk : k < 7) (x : Int32) : sm (va_up p k x) = sm p - (p k).toInt + x.toInt := by
  unfold sm
  rcases i7 hk with rfl | rfl | rfl | rfl | rfl | rfl | rfl <;> simp (disch := omega) only [va_ups, va_upn] <;> omega
theorem sOK.up {bd : Nat} {p : Nat → Int32} (h : sOK bd p) (k : Nat) {x : Int32} (h0 : 0 ≤ x.toInt) {bd' : Nat} (hs : sm (va_up p k x) ≤ bd') : sOK bd' (va_up p k x) :=
  ⟨fun i hi => by
    rw [va_upa]
    split
    · exact h0
    · exact h.1 i hi, hs⟩
theorem add_toInt {x y : Int32} (h0 : -2147483648 ≤ x.toInt + y.toInt) (h1 : x.toInt + y.toInt < 2147483648) : (x + y).toInt = x.toInt + y.toInt := by
  rw [Int32.toInt_add]
  exact Int.bmod_eq_of_le (by omega) (by omega)
theorem sub_toInt {x y : Int32} (h0 : -2147483648 ≤ x.toInt - y.toInt) (h1 : x.toInt - y.toInt < 2147483648) : (x - y).toInt = x.toInt - y.toInt := by
  rw [Int32.toInt_sub]
  exact Int.bmod_eq_of_le (by omega) (by omega)
theorem sOK.mv {bd : Nat} {p : Nat → Int32} (h : sOK bd p) (hb : bd < 1000000) {x y : Nat} (hx : x < 7) (hy : y < 7) (hxy : y ≠ x) {m : Int32} (hm : 0 ≤ m.toInt) : sOK bd (mv p x y m) := by
  have hq0 : 0 ≤ (mq p x m).toInt ∧ (mq p x m).toInt ≤ (p x).toInt := by
    have := h.1 x hx
    unfold mq
    split
    · omega
    · rename_i g
      have := Int32.le_iff_toInt_le.mp (Int32.not_lt.mp g)
      omega
  have hx1 := h.le hx
  have hy1 := h.le hy
  have hy0 := h.1 y hy
  have hs1 : (p x - mq p x m).toInt = (p x).toInt - (mq p x m).toInt := sub_toInt (by omega) (by omega)
  have hs2 : (p y + mq p x m).toInt = (p y).toInt + (mq p x m).toInt := add_toInt (by omega) (by omega)
  have e1 := sm_up (p := p) hx (p x - mq p x m)
  unfold _root_.mv
  rw [va_upn hxy]
  have e2 := sm_up (p := va_up p x (p x - mq p x m)) hy (p y + mq p x m)
  rw [va_upn hxy] at e2
  have h1 : sOK bd (va_up p x (p x - mq p x m)) := h.up x (by omega) (by have := h.2; omega)
  exact h1.up y (by omega) (by have := h.2; omega)
theorem sOK.thr {bd : Nat} {p : Nat → Int32} (h : sOK bd p) (hb : bd < 1000000) {A : Nat → Nat → Int32} {n i : Nat} (hn : n ≤ 6) (hi : i < n) : sOK bd (thr n A p i) := by
  have hl := lf_lt (i := i) (by omega)
  have hr := rt_lt hn hi
  have hl' := lf_ne (i := i) (by omega)
  have hr' := rt_ne hn hi
  have k1 : 0 ≤ (iN 1).toInt := by decide
  have k2 : 0 ≤ (iN 2).toInt := by decide
  unfold _root_.thr
  split
  · exact h.mv hb (by omega) (by omega) hr' k1
  · split
    · exact h.mv hb (by omega) (by omega) hl' k2
    · split
      · exact h.mv hb (by omega) (by omega) (Ne.symm hl') k1
      · split
        · exact (h.mv hb (by omega) (by omega) hl' k1).mv hb (by omega) (by omega) hr' k1
        · exact h
theorem sOK.play {bd : Nat} {p : Nat → Int32} (h : sOK bd p) (hb : bd < 1000000) {A : Nat → Nat → Int32} {n i : Nat} (hn : n ≤ 6) (hi : i < n) : sOK bd (playV n A p i) :=
  (h.thr hb hn hi (A := A)).e (fun j hj => by unfold playV; rw [va_upn (by omega)])
def rRow (A2 : Nat → Int32) (B3 : Nat → Nat → Int32) (Q2 : Nat → Option Nat) (W : Nat → Option gE) (O : Nat → Nat) : Prop := ∀ r, r < 6 → (Q2 r = none ∧ A2 r = -1) ∨ ∃ (id len : Nat) (ρ : Nat → Int32), Q2 r = some id ∧ 36 ≤ id ∧ W id = some (.inl (0, len, .inl ρ)) ∧ len ≤ 40 ∧ A2 r = iN len ∧ (∀ i, i < len → ρ i = B3 r i) ∧ O id = r
def rTxt (A5 : Nat → Int32) (B6 : Nat → Nat → Int32) (Q3 : Nat → Option Nat) (W : Nat → Option gE) (O : Nat → Nat) : Prop := ∀ r, r < 4 → (Q3 r = none ∧ A5 r = -1) ∨ ∃ (id len : Nat) (ρ : Nat → Int32), Q3 r = some id ∧ 36 ≤ id ∧ W id = some (.inl (1, len, .inl ρ)) ∧ len ≤ 60 ∧ A5 r = iN len ∧ (∀ i, i < len → ρ i = B6 r i) ∧ O id = 10 + r
def rKpt (bd : Nat) (A : Nat → Nat → Int32) (B : Nat → Nat → Nat → Int32) (Q12 : Nat → Option Nat) (W : Nat → Option gE) (O : Nat → Nat) : Prop := ∀ k, k < 3 → (Q12 k = none ∧ A 13 k = iN 0) ∨ ∃ (id ids ida idd dm : Nat) (ρ τ : Nat → Int32), Q12 k = some id ∧ (36 ≤ id ∧ 36 ≤ ids ∧ 36 ≤ ida ∧ 36 ≤ idd) ∧ W id = some (.inr (9, [.ref ids, .ref idd, .int (iN dm), .int (A 15 k)])) ∧ W ids = some (.inr (1, [.ref ida])) ∧ W ida = some (.inl (0, 9, .inl ρ)) ∧ W idd = some (.inl (0, 540, .inl τ)) ∧ (O id = 40 + k ∧ O ida = 20 + k ∧ O idd = 30 + k) ∧ A 13 k = iN 1 ∧ dm ≤ 60 ∧ A 14 k = iN dm ∧ 0 ≤ (A 15 k).toInt ∧ e9 (B 16 k) ρ ∧ (∀ j, j < 9 * dm → B 17 k j = τ j) ∧ sOK bd (B 16 k) ∧ ∀ j, j < dm → sOK bd (fun i => B 17 k (9 * j + i))
def r0 (nx : Nat) (W : Nat → Option gE) : Prop := 36 ≤ nx ∧ ∀ id, nx ≤ id → W id = none
def r1 (I : Nat → Int32) (L : Nat → Int64) (A : Nat → Nat → Int32) (J : Nat → Int32) (K : Nat → Int64) (a : Nat → Nat → Int32) : Prop := J 0 = I 0 ∧ (∀ i, i < 6 → a 1 i = A 1 i) ∧ J 2 = I 2 ∧ K 3 = L 3 ∧ K 4 = L 4
def r4 (n : Nat) (I : Nat → Int32) (A : Nat → Nat → Int32) (J : Nat → Int32) (Q : Nat → Nat → Option Nat) (W : Nat → Option gE) : Prop := n ≤ 6 ∧ I 11 = iN n ∧ J 7 = iN n ∧ J 8 = I 10 ∧ 0 ≤ (I 10).toInt ∧ ∀ i, i < n → ∃ id k, xKy A Q W i id k
def r6 (bd dm : Nat) (I : Nat → Int32) (A : Nat → Nat → Int32) (J : Nat → Int32) (a : Nat → Nat → Int32) : Prop := dm ≤ 60 ∧ I 21 = iN dm ∧ J 19 = iN dm ∧ (∀ j, j < 9 * dm → A 12 j = a 11 j) ∧ ∀ j, j < dm → sOK bd (fun i => A 12 (9 * j + i))
def r5 (bd : Nat) (B : Nat → Nat → Nat → Int32) (a : Nat → Nat → Int32) : Prop := e9 (B 11 0) (a 6) ∧ sOK bd (B 11 0)
def rel (bd n dm : Nat) (I : Nat → Int32) (L : Nat → Int64) (A : Nat → Nat → Int32) (B : Nat → Nat → Nat → Int32) (nx : Nat) (J : Nat → Int32) (K : Nat → Int64) (a : Nat → Nat → Int32) (Q : Nat → Nat → Option Nat) (W : Nat → Option gE) (O : Nat → Nat) : Prop :=
  r0 nx W ∧ r1 I L A J K a ∧ rRow (A 2) (B 3) (Q 2) W O ∧ rTxt (A 5) (B 6) (Q 3) W O ∧ r4 n I A J Q W ∧ r5 bd B a ∧ r6 bd dm I A J a ∧ rKpt bd A B (Q 12) W O
def RX (bd : Nat) (I : Nat → Int32) (L : Nat → Int64) (A : Nat → Nat → Int32) (B : Nat → Nat → Nat → Int32) (μ : gM) : Prop := ∃ (n dm nx : Nat) (J : Nat → Int32) (K : Nat → Int64) (rd : Value) (a : Nat → Nat → Int32) (Q : Nat → Nat → Option Nat) (W : Nat → Option gE) (O : Nat → Nat), μ = mX nx J K rd a Q W ∧ rel bd n dm I L A B nx J K a Q W O
def Out (bd : Nat) (o o' : gR) : Prop := ∃ (v : Value) (I' : Nat → Int32) (L' : Nat → Int64) (A' : Nat → Nat → Int32) (B' : Nat → Nat → Nat → Int32) (μ' : gM), o = some (some v, mM I' L' A' B') ∧ o' = some (some v, μ') ∧ RX (bd + 45) I' L' A' B' μ'
/-- a call of both: answers alike, the memories again alike -/
def Sim (fm fx : gM → gR) : Prop := ∀ (bd : Nat) (I : Nat → Int32) (L : Nat → Int64) (A : Nat → Nat → Int32) (B : Nat → Nat → Nat → Int32) (μ : gM), bd < 900000 → 594 ≤ bd → RX bd I L A B μ → Out bd (fm (mM I L A B)) (fx μ)
section REL
variable {bd n dm nx : Nat} {I I' J J' : Nat → Int32} {L L' K K' : Nat → Int64} {A A' a a' : Nat → Nat → Int32} {B B' : Nat → Nat → Nat → Int32} {Q : Nat → Nat → Option Nat} {W : Nat → Option gE} {O : Nat → Nat} {rd : Value}
theorem rel.same (h : rel bd n dm I L A B nx J K a Q W O) (hM : sameM I L A B I' L' A' B') (hX : sameX J K a J' K' a') : rel bd n dm I' L' A' B' nx J' K' a' Q W O := by
  obtain ⟨h0, ⟨b0, b1, b2, b3, b4⟩, h2, h3, ⟨d0, d1, d2, d3, d4, d5⟩, ⟨e0, e1⟩, ⟨f0, f1, f2, f3, f4⟩, h7⟩ := h
  obtain ⟨m1, m2, m3, m4, m5⟩ := hM
  obtain ⟨x1, x2, x3⟩ := hX
  refine ⟨h0, ⟨?_, ?_, ?_, ?_, ?_⟩, ?_, ?_, ⟨d0, ?_, ?_, ?_, ?_, ?_⟩, ⟨?_, ?_⟩, ⟨f0, ?_, ?_, ?_, ?_⟩, ?_⟩
  · rw [x1 0 rfl, m1 0 rfl, b0]
  · rw [x3 1 rfl, m3 1 rfl]; exact b1
  · rw [x1 2 rfl, m1 2 rfl, b2]
  · rw [x2 3 rfl, m2 3 rfl, b3]
  · rw [x2 4 rfl, m2 4 rfl, b4]
  · rw [m3 2 rfl, m4 3 rfl]; exact h2
  · rw [m3 5 rfl, m4 6 rfl]; exact h3
  · rw [m1 11 rfl, d1]
  · rw [x1 7 rfl, d2]
  · rw [x1 8 rfl, m1 10 rfl, d3]
  · rw [m1 10 rfl]; exact d4
  · intro i hi
    obtain ⟨id, k, g1, g2, g3, g4, g5⟩ := d5 i hi
    refine ⟨id, k, g1, g2, g3, ?_, ?_⟩
    · rw [m3 7 rfl]; exact g4
    · rw [m3 8 rfl, m3 9 rfl]; exact g5
  · rw [x3 6 rfl]; exact m5.trans e0
  · exact e1.e (fun i hi => (m5 i (by omega)).symm)
  · rw [m1 21 rfl, f1]
  · rw [x1 19 rfl, f2]
  · rw [m3 12 rfl, x3 11 rfl]; exact f3
  · rw [m3 12 rfl]; exact f4
  · intro k hk
    rw [m3 13 rfl, m3 14 rfl, m3 15 rfl, m4 16 rfl, m4 17 rfl]
    exact h7 k hk
theorem rKpt.mono {bd bd' : Nat} {Q12 : Nat → Option Nat} (h : rKpt bd A B Q12 W O) (hb : bd ≤ bd') : rKpt bd' A B Q12 W O := by
  intro k hk
  rcases h k hk with h | ⟨id, ids, ida, idd, d, ρ, τ, g1, g2, g3, g4, g5, g6, g7, g8, g9, g10, g11, g12, g13, g14, g15⟩
  · exact Or.inl h
  · exact Or.inr ⟨id, ids, ida, idd, d, ρ, τ, g1, g2, g3, g4, g5, g6, g7, g8, g9, g10, g11, g12, g13, g14.mono hb, fun j hj => (g15 j hj).mono hb⟩
theorem rel.mono {bd' : Nat} (h : rel bd n dm I L A B nx J K a Q W O) (hb : bd ≤ bd') : rel bd' n dm I L A B nx J K a Q W O := by
  obtain ⟨h0, h1, h2, h3, h4, ⟨e0, e1⟩, ⟨f0, f1, f2, f3, f4⟩, h7⟩ := h
  exact ⟨h0, h1, h2, h3, h4, ⟨e0, e1.mono hb⟩, ⟨f0, f1, f2, f3, fun j hj => (f4 j hj).mono hb⟩, h7.mono hb⟩
theorem rel.RX (h : rel bd n dm I L A B nx J K a Q W O) : RX (bd + 45) I L A B (mX nx J K rd a Q W) := ⟨n, dm, nx, J, K, rd, a, Q, W, O, rfl, h.mono (by omega)⟩
/-- asked -/
theorem rel.ask (h : rel bd n dm I L A B nx J K a Q W O) (v : Int32) : rel bd n dm (va_up I 2 v) L A B nx (va_up J 2 v) K a Q W O :=
  ⟨h.1, ⟨h.2.1.1, h.2.1.2.1, rfl, h.2.1.2.2.2⟩, h.2.2⟩
theorem rel.fnd (h : rel bd n dm I L A B nx J K a Q W O) {f : Nat} (hf : f < 6) : rel bd n dm (va_up I 0 (iN f)) L (va_up A 1 (va_up (A 1) f (A 1 f + iN 1))) B nx (va_up J 0 (iN f)) K (va_up a 1 (va_up (a 1) f (a 1 f + iN 1))) Q W O := by
  refine ⟨h.1, ⟨rfl, ?_, h.2.1.2.2⟩, h.2.2.1, h.2.2.2.1, h.2.2.2.2.1, h.2.2.2.2.2.1, h.2.2.2.2.2.2.1, h.2.2.2.2.2.2.2⟩
  intro i hi
  rw [va_ups, va_ups, h.2.1.2.1 f hf, va_upa, va_upa, h.2.1.2.1 i hi]
theorem Sim.of {fm fx : gM → gR} (h : ∀ (bd n dm nx : Nat) (I J : Nat → Int32) (L K : Nat → Int64) (A a : Nat → Nat → Int32) (B : Nat → Nat → Nat → Int32) (Q : Nat → Nat → Option Nat) (W : Nat → Option gE) (O : Nat → Nat) (rd : Value), bd < 900000 → 594 ≤ bd → rel bd n dm I L A B nx J K a Q W O → Out bd (fm (mM I L A B)) (fx (mX nx J K rd a Q W))) : Sim fm fx := by
  intro bd I L A B μ hb hb2 hR
  obtain ⟨n, dm, nx, J, K, rd, a, Q, W, O, rfl, hr⟩ := hR
  exact h bd n dm nx I J L K A a B Q W O rd hb hb2 hr
theorem rel.out (h : rel bd n dm I L A B nx J K a Q W O) (v : Value) : Out bd (some (some v, mM I L A B)) (some (some v, mX nx J K rd a Q W)) := ⟨v, I, L, A, B, _, rfl, rfl, h.RX⟩
theorem inR_of {x : Int32} {k : Nat} (hk : k < 2147483648) (h : inR x (iN 0) (iN k) = true) : ∃ j : Nat, j ≤ k ∧ x = iN j := by
  simp only [inR, Bool.and_eq_true, Bool.not_eq_true', decide_eq_false_iff_not] at h
  exact iN_in hk h.1 h.2
theorem inR_iN {j k : Nat} (hj : j < 2147483648) (hk : k < 2147483648) : inR (iN j) (iN 0) (iN k) = decide (j ≤ k) := by
  unfold inR
  simp only [iN_lt hj (show 0 < 2147483648 by omega), iN_lt hk hj]
  simp only [Nat.not_lt_zero, decide_false, Bool.not_false, Bool.true_and]
  by_cases h : j ≤ k
  · rw [decide_eq_true h, decide_eq_false (by omega)]
    rfl
  · rw [decide_eq_false h, decide_eq_true (by omega)]
    rfl
end REL
theorem S_asked : Sim (fun μ => fX2_asked μ 0) (fun μ => fX0_asked μ 0) := Sim.of fun bd n dm nx I J L K A a B Q W O rd hb hb2 h => by
  simp only [fX2_asked, fX0_asked, k_nm, k_jn, k_cI, k_cJ, k_cP, k_cV, k_rZ0, k_rZ1, k_nn, k_nu1, k_nu0, k_nl1, k_nl0, lit0, lit1, lit2, lit3, lit4, lit5, lit6, lit7, lit8, lit9, lit10, lit11, lit12, lit20, lit24, lit31, lit32, lit40, lit48, lit60, lit240, lit540, lit999, lit1000, lit98, lit99, lit100, lit107, lit112, lit114, lit115, mM_is, mM_i0, mM_pi0, mM_i2, mM_pi2, mM_i10, mM_pi10, mM_i11, mM_pi11, mM_i15, mM_pi15, mM_i16, mM_pi16, mM_i17, mM_pi17, mM_i18, mM_pi18, mM_i21, mM_pi21, mM_i30, mM_pi30, mM_i31, mM_pi31, mM_i32, mM_pi32, mM_i33, mM_pi33, mM_l3, mM_pl3, mM_l4, mM_pl4, mM_l35, mM_pl35, mM_r1, mM_a1, mM_s1, mM_r5, mM_a2, mM_s2, mM_r6, mM_a3, mM_s3, mM_r7, mM_a4, mM_s4, mM_r8, mM_a5, mM_s5, mM_r9, mM_a6, mM_s6, mM_r12, mM_a7, mM_s7, mM_r13, mM_a8, mM_s8, mM_r14, mM_a9, mM_s9, mM_r19, mM_a10, mM_s10, mM_r20, mM_a11, mM_s11, mM_r22, mM_a12, mM_s12, mM_r23, mM_a13, mM_s13, mM_r24, mM_a14, mM_s14, mM_r25, mM_a15, mM_s15, mM_r26, mM_a16, mM_s16, mM_r27, mM_a17, mM_s17, mM_r28, mM_a18, mM_s18, mM_r29, mM_a19, mM_s19, mM_r34, mM_a20, mM_s20, mX_sf, mX_ss, mX_sa, mX_st, mX_dq, mX_is, mX_lv, mX_i0, mX_pi0, mX_i2, mX_pi2, mX_i7, mX_pi7, mX_i8, mX_pi8, mX_i12, mX_pi12, mX_i13, mX_pi13, mX_i14, mX_pi14, mX_i19, mX_pi19, mX_i28, mX_pi28, mX_i29, mX_pi29, mX_i31, mX_pi31, mX_i32, mX_pi32, mX_i33, mX_pi33, mX_l3, mX_pl3, mX_l4, mX_pl4, mX_l34, mX_pl34, mX_l35, mX_pl35, mX_p11, mX_r1, mX_a1, mX_s1, mX_r5, mX_q2, mX_sq2, mX_r6, mX_q3, mX_sq3, mX_r9, mX_q4, mX_sq4, mX_r10, mX_r15, mX_a7, mX_s7, mX_r16, mX_a8, mX_s8, mX_r17, mX_a9, mX_s9, mX_r18, mX_a10, mX_s10, mX_r20, mX_a11, mX_s11, mX_r21, mX_q12, mX_sq12, mX_r22, mX_r23, mX_r24, mX_a17, mX_s17, mX_r25, mX_r26, mX_a33, mX_s33, mX_r27, mX_a34, mX_s34, mX_r30, mX_a35, mX_s35, iN_add, iN_mul, va_ups, va_upp, va_upn, h.2.1.2.2.1]
  exact h.out _
theorem S_upper : Sim (fun μ => fX2_upper μ 0) (fun μ => fX0_upper μ 0) := Sim.of fun bd n dm nx I J L K A a B Q W O rd hb hb2 h => by
  simp only [fX2_upper, fX0_upper, k_nm, k_jn, k_cI, k_cJ, k_cP, k_cV, k_rZ0, k_rZ1, k_nn, k_nu1, k_nu0, k_nl1, k_nl0, lit0, lit1, lit2, lit3, lit4, lit5, lit6, lit7, lit8, lit9, lit10, lit11, lit12, lit20, lit24, lit31, lit32, lit40, lit48, lit60, lit240, lit540, lit999, lit1000, lit98, lit99, lit100, lit107, lit112, lit114, lit115, mM_is, mM_i0, mM_pi0, mM_i2, mM_pi2, mM_i10, mM_pi10, mM_i11, mM_pi11, mM_i15, mM_pi15, mM_i16, mM_pi16, mM_i17, mM_pi17, mM_i18, mM_pi18, mM_i21, mM_pi21, mM_i30, mM_pi30, mM_i31, mM_pi31, mM_i32, mM_pi32, mM_i33, mM_pi33, mM_l3, mM_pl3, mM_l4, mM_pl4, mM_l35, mM_pl35, mM_r1, mM_a1, mM_s1, mM_r5, mM_a2, mM_s2, mM_r6, mM_a3, mM_s3, mM_r7, mM_a4, mM_s4, mM_r8, mM_a5, mM_s5, mM_r9, mM_a6, mM_s6, mM_r12, mM_a7, mM_s7, mM_r13, mM_a8, mM_s8, mM_r14, mM_a9, mM_s9, mM_r19, mM_a10, mM_s10, mM_r20, mM_a11, mM_s11, mM_r22, mM_a12, mM_s12, mM_r23, mM_a13, mM_s13, mM_r24, mM_a14, mM_s14, mM_r25, mM_a15, mM_s15, mM_r26, mM_a16, mM_s16, mM_r27, mM_a17, mM_s17, mM_r28, mM_a18, mM_s18, mM_r29, mM_a19, mM_s19, mM_r34, mM_a20, mM_s20, mX_sf, mX_ss, mX_sa, mX_st, mX_dq, mX_is, mX_lv, mX_i0, mX_pi0, mX_i2, mX_pi2, mX_i7, mX_pi7, mX_i8, mX_pi8, mX_i12, mX_pi12, mX_i13, mX_pi13, mX_i14, mX_pi14, mX_i19, mX_pi19, mX_i28, mX_pi28, mX_i29, mX_pi29, mX_i31, mX_pi31, mX_i32, mX_pi32, mX_i33, mX_pi33, mX_l3, mX_pl3, mX_l4, mX_pl4, mX_l34, mX_pl34, mX_l35, mX_pl35, mX_p11, mX_r1, mX_a1, mX_s1, mX_r5, mX_q2, mX_sq2, mX_r6, mX_q3, mX_sq3, mX_r9, mX_q4, mX_sq4, mX_r10, mX_r15, mX_a7, mX_s7, mX_r16, mX_a8, mX_s8, mX_r17, mX_a9, mX_s9, mX_r18, mX_a10, mX_s10, mX_r20, mX_a11, mX_s11, mX_r21, mX_q12, mX_sq12, mX_r22, mX_r23, mX_r24, mX_a17, mX_s17, mX_r25, mX_r26, mX_a33, mX_s33, mX_r27, mX_a34, mX_s34, mX_r30, mX_a35, mX_s35, iN_add, iN_mul, va_ups, va_upp, va_upn, h.2.1.2.2.2.1]
  exact h.out _
theorem S_lower : Sim (fun μ => fX2_lower μ 0) (fun μ => fX0_lower μ 0) := Sim.of fun bd n dm nx I J L K A a B Q W O rd hb hb2 h => by
  simp only [fX2_lower, fX0_lower, k_nm, k_jn, k_cI, k_cJ, k_cP, k_cV, k_rZ0, k_rZ1, k_nn, k_nu1, k_nu0, k_nl1, k_nl0, lit0, lit1, lit2, lit3, lit4, lit5, lit6, lit7, lit8, lit9, lit10, lit11, lit12, lit20, lit24, lit31, lit32, lit40, lit48, lit60, lit240, lit540, lit999, lit1000, lit98, lit99, lit100, lit107, lit112, lit114, lit115, mM_is, mM_i0, mM_pi0, mM_i2, mM_pi2, mM_i10, mM_pi10, mM_i11, mM_pi11, mM_i15, mM_pi15, mM_i16, mM_pi16, mM_i17, mM_pi17, mM_i18, mM_pi18, mM_i21, mM_pi21, mM_i30, mM_pi30, mM_i31, mM_pi31, mM_i32, mM_pi32, mM_i33, mM_pi33, mM_l3, mM_pl3, mM_l4, mM_pl4, mM_l35, mM_pl35, mM_r1, mM_a1, mM_s1, mM_r5, mM_a2, mM_s2, mM_r6, mM_a3, mM_s3, mM_r7, mM_a4, mM_s4, mM_r8, mM_a5, mM_s5, mM_r9, mM_a6, mM_s6, mM_r12, mM_a7, mM_s7, mM_r13, mM_a8, mM_s8, mM_r14, mM_a9, mM_s9, mM_r19, mM_a10, mM_s10, mM_r20, mM_a11, mM_s11, mM_r22, mM_a12, mM_s12, mM_r23, mM_a13, mM_s13, mM_r24, mM_a14, mM_s14, mM_r25, mM_a15, mM_s15, mM_r26, mM_a16, mM_s16, mM_r27, mM_a17, mM_s17, mM_r28, mM_a18, mM_s18, mM_r29, mM_a19, mM_s19, mM_r34, mM_a20, mM_s20, mX_sf, mX_ss, mX_sa, mX_st, mX_dq, mX_is, mX_lv, mX_i0, mX_pi0, mX_i2, mX_pi2, mX_i7, mX_pi7, mX_i8, mX_pi8, mX_i12, mX_pi12, mX_i13, mX_pi13, mX_i14, mX_pi14, mX_i19, mX_pi19, mX_i28, mX_pi28, mX_i29, mX_pi29, mX_i31, mX_pi31, mX_i32, mX_pi32, mX_i33, mX_pi33, mX_l3, mX_pl3, mX_l4, mX_pl4, mX_l34, mX_pl34, mX_l35, mX_pl35, mX_p11, mX_r1, mX_a1, mX_s1, mX_r5, mX_q2, mX_sq2, mX_r6, mX_q3, mX_sq3, mX_r9, mX_q4, mX_sq4, mX_r10, mX_r15, mX_a7, mX_s7, mX_r16, mX_a8, mX_s8, mX_r17, mX_a9, mX_s9, mX_r18, mX_a10, mX_s10, mX_r20, mX_a11, mX_s11, mX_r21, mX_q12, mX_sq12, mX_r22, mX_r23, mX_r24, mX_a17, mX_s17, mX_r25, mX_r26, mX_a33, mX_s33, mX_r27, mX_a34, mX_s34, mX_r30, mX_a35, mX_s35, iN_add, iN_mul, va_ups, va_upp, va_upn, h.2.1.2.2.2.2]
  exact h.out _
theorem S_finding : Sim (fun μ => fX2_finding μ 0) (fun μ => fX0_finding μ 0) := Sim.of fun bd n dm nx I J L K A a B Q W O rd hb hb2 h => by
  simp only [fX2_finding, fX0_finding, k_nm, k_jn, k_cI, k_cJ, k_cP, k_cV, k_rZ0, k_rZ1, k_nn, k_nu1, k_nu0, k_nl1, k_nl0, lit0, lit1, lit2, lit3, lit4, lit5, lit6, lit7, lit8, lit9, lit10, lit11, lit12, lit20, lit24, lit31, lit32, lit40, lit48, lit60, lit240, lit540, lit999, lit1000, lit98, lit99, lit100, lit107, lit112, lit114, lit115, mM_is, mM_i0, mM_pi0, mM_i2, mM_pi2, mM_i10, mM_pi10, mM_i11, mM_pi11, mM_i15, mM_pi15, mM_i16, mM_pi16, mM_i17, mM_pi17, mM_i18, mM_pi18, mM_i21, mM_pi21, mM_i30, mM_pi30, mM_i31, mM_pi31, mM_i32, mM_pi32, mM_i33, mM_pi33, mM_l3, mM_pl3, mM_l4, mM_pl4, mM_l35, mM_pl35, mM_r1, mM_a1, mM_s1, mM_r5, mM_a2, mM_s2, mM_r6, mM_a3, mM_s3, mM_r7, mM_a4, mM_s4, mM_r8, mM_a5, mM_s5, mM_r9, mM_a6, mM_s6, mM_r12, mM_a7, mM_s7, mM_r13, mM_a8, mM_s8, mM_r14, mM_a9, mM_s9, mM_r19, mM_a10, mM_s10, mM_r20, mM_a11, mM_s11, mM_r22, mM_a12, mM_s12, mM_r23, mM_a13, mM_s13, mM_r24, mM_a14, mM_s14, mM_r25, mM_a15, mM_s15, mM_r26, mM_a16, mM_s16, mM_r27, mM_a17, mM_s17, mM_r28, mM_a18, mM_s18, mM_r29, mM_a19, mM_s19, mM_r34, mM_a20, mM_s20, mX_sf, mX_ss, mX_sa, mX_st, mX_dq, mX_is, mX_lv, mX_i0, mX_pi0, mX_i2, mX_pi2, mX_i7, mX_pi7, mX_i8, mX_pi8, mX_i12, mX_pi12, mX_i13, mX_pi13, mX_i14, mX_pi14, mX_i19, mX_pi19, mX_i28, mX_pi28, mX_i29, mX_pi29, mX_i31, mX_pi31, mX_i32, mX_pi32, mX_i33, mX_pi33, mX_l3, mX_pl3, mX_l4, mX_pl4, mX_l34, mX_pl34, mX_l35, mX_pl35, mX_p11, mX_r1, mX_a1, mX_s1, mX_r5, mX_q2, mX_sq2, mX_r6, mX_q3, mX_sq3, mX_r9, mX_q4, mX_sq4, mX_r10, mX_r15, mX_a7, mX_s7, mX_r16, mX_a8, mX_s8, mX_r17, mX_a9, mX_s9, mX_r18, mX_a10, mX_s10, mX_r20, mX_a11, mX_s11, mX_r21, mX_q12, mX_sq12, mX_r22, mX_r23, mX_r24, mX_a17, mX_s17, mX_r25, mX_r26, mX_a33, mX_s33, mX_r27, mX_a34, mX_s34, mX_r30, mX_a35, mX_s35, iN_add, iN_mul, va_ups, va_upp, va_upn, h.2.1.1]
  exact h.out _
theorem S_findings (f : Int32) : Sim (fun μ => fX2_findings μ 0 f) (fun μ => fX0_findings μ 0 f) := Sim.of fun bd n dm nx I J L K A a B Q W O rd hb hb2 h => by
  have e : inR f 1 5 = inR f (iN 1) (iN 5) := rfl
  simp only [fX2_findings, fX0_findings, M_in, X_in, k_cI, lit1, lit5, bI0, lit0]
  cases hc : inR f (iN 1) (iN 5)
  · exact h.out _
  · simp only [inR, Bool.and_eq_true, Bool.not_eq_true', decide_eq_false_iff_not] at hc
    obtain ⟨k, hk, rfl⟩ := iN_in (x := f) (n := 5) (by omega) (fun g => hc.1 (Int32.lt_trans g (by decide))) hc.2
    simp (disch := first | omega | assumption | rfl) only [k_nm, k_jn, k_cI, k_cJ, k_cP, k_cV, k_rZ0, k_rZ1, k_nn, k_nu1, k_nu0, k_nl1, k_nl0, lit0, lit1, lit2, lit3, lit4, lit5, lit6, lit7, lit8, lit9, lit10, lit11, lit12, lit20, lit24, lit31, lit32, lit40, lit48, lit60, lit240, lit540, lit999, lit1000, lit98, lit99, lit100, lit107, lit112, lit114, lit115, mM_is, mM_i0, mM_pi0, mM_i2, mM_pi2, mM_i10, mM_pi10, mM_i11, mM_pi11, mM_i15, mM_pi15, mM_i16, mM_pi16, mM_i17, mM_pi17, mM_i18, mM_pi18, mM_i21, mM_pi21, mM_i30, mM_pi30, mM_i31, mM_pi31, mM_i32, mM_pi32, mM_i33, mM_pi33, mM_l3, mM_pl3, mM_l4, mM_pl4, mM_l35, mM_pl35, mM_r1, mM_a1, mM_s1, mM_r5, mM_a2, mM_s2, mM_r6, mM_a3, mM_s3, mM_r7, mM_a4, mM_s4, mM_r8, mM_a5, mM_s5, mM_r9, mM_a6, mM_s6, mM_r12, mM_a7, mM_s7, mM_r13, mM_a8, mM_s8, mM_r14, mM_a9, mM_s9, mM_r19, mM_a10, mM_s10, mM_r20, mM_a11, mM_s11, mM_r22, mM_a12, mM_s12, mM_r23, mM_a13, mM_s13, mM_r24, mM_a14, mM_s14, mM_r25, mM_a15, mM_s15, mM_r26, mM_a16, mM_s16, mM_r27, mM_a17, mM_s17, mM_r28, mM_a18, mM_s18, mM_r29, mM_a19, mM_s19, mM_r34, mM_a20, mM_s20, mX_sf, mX_ss, mX_sa, mX_st, mX_dq, mX_is, mX_lv, mX_i0, mX_pi0, mX_i2, mX_pi2, mX_i7, mX_pi7, mX_i8, mX_pi8, mX_i12, mX_pi12, mX_i13, mX_pi13, mX_i14, mX_pi14, mX_i19, mX_pi19, mX_i28, mX_pi28, mX_i29, mX_pi29, mX_i31, mX_pi31, mX_i32, mX_pi32, mX_i33, mX_pi33, mX_l3, mX_pl3, mX_l4, mX_pl4, mX_l34, mX_pl34, mX_l35, mX_pl35, mX_p11, mX_r1, mX_a1, mX_s1, mX_r5, mX_q2, mX_sq2, mX_r6, mX_q3, mX_sq3, mX_r9, mX_q4, mX_sq4, mX_r10, mX_r15, mX_a7, mX_s7, mX_r16, mX_a8, mX_s8, mX_r17, mX_a9, mX_s9, mX_r18, mX_a10, mX_s10, mX_r20, mX_a11, mX_s11, mX_r21, mX_q12, mX_sq12, mX_r22, mX_r23, mX_r24, mX_a17, mX_s17, mX_r25, mX_r26, mX_a33, mX_s33, mX_r27, mX_a34, mX_s34, mX_r30, mX_a35, mX_s35, iN_add, iN_mul, va_ups, va_upp, va_upn, Bool.true_eq_false, if_false, h.2.1.2.1 k]
    exact h.out _
