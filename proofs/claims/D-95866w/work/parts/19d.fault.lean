/-! MY ROWS 13: instructions that may fault, inside a try -/
section GFAULT
variable {p : Program} {l : Launch} {e : Env} {R : Room} {s : State} {m : MethodId} {args : Array Value} {below : List Frame} {meth : Method} {c : Code} {H : Heap} {locs : List Loc} {cells slots : Nat} {Q : State → Prop}
variable {cc : ByteArray} {pc nL hN hO : Nat} {ls : Array Slot} {rest : List Value} {own : String} {Γ : gG} {A : Nat → Prop} {nz : Nat} {ad : Nat → Nat} {μ : gM} {r : Option Value × gM} {hh : List (Nat × Nat × Nat × Nat)}
/-- the load of an element: of null, out of range, or the element -/
def tald (μ : gM) (t : Nat) (q : Option Nat) (x : Int32) (kN kO : gR) (kt : Int32 → gR) : gR := match q with
  | none => kN
  | some i => match garI μ t i with
    | some (n, f) => if 2 ^ 31 ≤ n then none else if x < 0 ∨ n ≤ x.toNatClampNeg then kO else kt (f x.toNatClampNeg)
    | none => none
def tast (μ : gM) (t : Nat) (q : Option Nat) (x : Int32) (v : Int32) (kN kO : gR) (kt : gM → gR) : gR := match q with
  | none => kN
  | some i => match garI μ t i with
    | some (n, _) => if 2 ^ 31 ≤ n then none else if x < 0 ∨ n ≤ x.toNatClampNeg then kO else gsI μ t i x v kt
    | none => none
def tlen (μ : gM) (t : Nat) (q : Option Nat) (kN : gR) (kt : Int32 → gR) : gR := match q with
  | none => kN
  | some i => glen μ t i kt
def tdiv (a b : Int64) (kO : gR) (kt : Int64 → gR) : gR := if b = 0 then kO else kt (a / b)
def tna (μ : gM) (t lim : Nat) (n : Int32) (kO : gR) (kt : gM → Nat → gR) : gR := if n < 0 then kO else gna μ t lim n kt
abbrev xW (p : Program) (l : Launch) (e : Env) (R : Room) (s : State) (m : MethodId) (args : Array Value) (below : List Frame) (meth : Method) (c : Code) (Q : State → Prop) (Γ : gG) (A : Nat → Prop) (nz : Nat) (ad : Nat → Nat) (μ : gM) (hp : Nat) (ls : Array Slot) (cells slots : Nat) : Prop := ∀ (v : Addr) (H1 : Heap) (locs1 : List Loc), gWd Γ A nz ad μ s.heap H1 locs1 → W p l e R s m args below meth c H1 locs1 cells slots Q (F0 m hp ls [.ref v])
abbrev x_txt (x : Int32) (n : Nat) : String := toString "Index " ++ toString x ++ toString " out of bounds for length " ++ toString n
theorem x_fN (X : gX p m c cc nL s args own Γ A) (Y : gY l s A c hh) (h : gWd Γ A nz ad μ s.heap H locs) {g : JFrame}
    (hstep : ∀ T : State, T.heap = H → Stand p l e R s m args below meth c T locs cells slots → ∀ t, Steps p.tables e below ((T.setTop (F0 m pc ls rest)).pushFrame (.throwNew "java/lang/NullPointerException" none none)) t → Steps p.tables e below (T.setTop g) t)
    (hr : x_R R ls nL rest) (hc : cells + 1 ≤ R.cells ∧ slots + 8 ≤ R.slots) (hhit : x_hit own "java/lang/NullPointerException" pc hN hh) (kk : xW p l e R s m args below meth c Q Γ A nz ad μ hN ls (cells + 1) (slots + 8)) : W p l e R s m args below meth c H locs cells slots Q g := by
  intro T hT S
  obtain ⟨t, h1, h2⟩ := x_thrN X Y h hr hc hhit kk T hT S
  exact ⟨t, hstep T hT S t h1, h2⟩
theorem x_fI (X : gX p m c cc nL s args own Γ A) (Y : gY l s A c hh) (h : gWd Γ A nz ad μ s.heap H locs) {g : JFrame} {x : Int32} {n : Nat} (hn : n < 2 ^ 31)
    (hstep : ∀ T : State, T.heap = H → Stand p l e R s m args below meth c T locs cells slots → ∀ t, Steps p.tables e below ((T.setTop (F0 m pc ls rest)).pushFrame (.throwNew "java/lang/ArrayIndexOutOfBoundsException" (some (x_txt x n)) none)) t → Steps p.tables e below (T.setTop g) t)
    (hr : x_R R ls nL rest) (hc : cells + 3 ≤ R.cells ∧ slots + (212 + 10) ≤ R.slots) (hhit : x_hit own "java/lang/ArrayIndexOutOfBoundsException" pc hO hh) (kk : xW p l e R s m args below meth c Q Γ A nz ad μ hO ls (cells + 3) (slots + (212 + 10))) : W p l e R s m args below meth c H locs cells slots Q g := by
  intro T hT S
  obtain ⟨t, h1, h2⟩ := x_thrM X Y h (text := (x_txt x n)) (B := 212) x_atIdx (by decide +kernel) (index_text_modelled x n) (index_text_bytes x hn) (by omega) hr hc hhit kk T hT S
  exact ⟨t, hstep T hT S t h1, h2⟩
theorem x_fNeg (X : gX p m c cc nL s args own Γ A) (Y : gY l s A c hh) (h : gWd Γ A nz ad μ s.heap H locs) {g : JFrame} {x : Int32} (hx : x < 0)
    (hstep : ∀ T : State, T.heap = H → Stand p l e R s m args below meth c T locs cells slots → ∀ t, Steps p.tables e below ((T.setTop (F0 m pc ls rest)).pushFrame (.throwNew "java/lang/NegativeArraySizeException" (some (toString x)) none)) t → Steps p.tables e below (T.setTop g) t)
    (hr : x_R R ls nL rest) (hc : cells + 3 ≤ R.cells ∧ slots + (44 + 10) ≤ R.slots) (hhit : x_hit own "java/lang/NegativeArraySizeException" pc hO hh) (kk : xW p l e R s m args below meth c Q Γ A nz ad μ hO ls (cells + 3) (slots + (44 + 10))) : W p l e R s m args below meth c H locs cells slots Q g := by
  intro T hT S
  have hB : (stringBytes (stringToUtf16 (toString x))).size ≤ 44 := by
    have h1 := stringBytes_size_le (stringToUtf16 (toString x))
    have h2 := utf16_size_le (toString x)
    have h3 := int32_print x
    omega
  have hnm : ((toString x) == notModelled) = false := by
    apply beq_eq_false_iff_ne.mpr
    intro hE
    have h3 := int32_print x
    rw [hE] at h3
    exact absurd h3 (by decide +kernel)
  obtain ⟨t, h1, h2⟩ := x_thrM X Y h (text := toString x) (B := 44) x_atNeg (by decide +kernel) hnm hB (by omega) hr hc hhit kk T hT S
  exact ⟨t, hstep T hT S t h1, h2⟩
theorem x_fDiv (X : gX p m c cc nL s args own Γ A) (Y : gY l s A c hh) (h : gWd Γ A nz ad μ s.heap H locs) {g : JFrame}
    (hstep : ∀ T : State, T.heap = H → Stand p l e R s m args below meth c T locs cells slots → ∀ t, Steps p.tables e below ((T.setTop (F0 m pc ls rest)).pushFrame (.throwNew "java/lang/ArithmeticException" (some "/ by zero") none)) t → Steps p.tables e below (T.setTop g) t)
    (hr : x_R R ls nL rest) (hc : cells + 3 ≤ R.cells ∧ slots + (9 + 10) ≤ R.slots) (hhit : x_hit own "java/lang/ArithmeticException" pc hO hh) (kk : xW p l e R s m args below meth c Q Γ A nz ad μ hO ls (cells + 3) (slots + (9 + 10))) : W p l e R s m args below meth c H locs cells slots Q g := by
  intro T hT S
  obtain ⟨t, h1, h2⟩ := x_thrM X Y h (text := "/ by zero") (B := 9) x_atAri (by decide +kernel) (by decide +kernel) (by decide +kernel) (by omega) hr hc hhit kk T hT S
  exact ⟨t, hstep T hT S t h1, h2⟩
theorem r_tiald (X : gX p m c cc nL s args own Γ A) (Y : gY l s A c hh) (h : gWd Γ A nz ad μ s.heap H locs) {q : Option Nat} {x : Int32} {kN kO : gR} {kt : Int32 → gR} (hr : x_R R ls nL rest) (hc : cells + 3 ≤ R.cells ∧ slots + (212 + 10) ≤ R.slots) (hiN : x_hit own "java/lang/NullPointerException" pc hN hh) (hiO : x_hit own "java/lang/ArrayIndexOutOfBoundsException" pc hO hh) (d : decode cc pc = .ok (.iaload, 1)) (hf : tald μ 0 q x kN kO kt = some r)
    (kkN : kN = some r → xW p l e R s m args below meth c Q Γ A nz ad μ hN ls (cells + 1) (slots + 8)) (kkO : kO = some r → xW p l e R s m args below meth c Q Γ A nz ad μ hO ls (cells + 3) (slots + (212 + 10)))
    (kk : ∀ y : Int32, kt y = some r → W p l e R s m args below meth c H locs cells slots Q (F0 m (pc + 1) ls (.int y :: rest))) : W p l e R s m args below meth c H locs cells slots Q (F0 m pc ls (.int x :: va_rf (q.map ad) :: rest)) := by
  cases q with
  | none => exact x_fN (pc := pc) (rest := rest) X Y h (fun T hT S => S.ialoadNull X.hx (g := F0 m pc ls (.int x :: .null :: rest)) rfl rfl (by rw [X.hb]; exact d)) hr ⟨by omega, by omega⟩ hiN (kkN hf)
  | some i =>
    simp only [tald] at hf
    cases hg : garI μ 0 i with
    | none => rw [hg] at hf; cases hf
    | some a =>
      obtain ⟨n, f⟩ := a
      rw [hg] at hf
      dsimp only at hf
      split at hf
      · cases hf
      · rename_i hn
        have he := garI_some hg
        obtain ⟨q0, hq⟩ := h.at he
        split at hf
        · rename_i ho
          have hP := h.P q0 _ hq
          exact x_fI (pc := pc) (rest := rest) X Y h (x := x) (n := n) (by omega) (fun T hT S t ht => S.ialoadOut X.hx (a := ad i) (cell := arrV (Γ.2 0) n (fun j => .int (f j))) (ty := .int) (by rw [hT]; exact hP) ((X.K.2 0 _ rfl).1 n (fun j => .int (f j))) (by rw [arrV_size]; exact ho) (g := F0 m pc ls (.int x :: .ref (ad i) :: rest)) rfl rfl (by rw [X.hb]; exact d) t (by rw [arrV_size]; exact ht)) hr hc hiO (kkO hf)
        · rename_i ho
          exact va_iald X.hx X.hb X.K h.P q0 0 hq rfl ho d (kk _ hf)
theorem r_tbald (X : gX p m c cc nL s args own Γ A) (Y : gY l s A c hh) (h : gWd Γ A nz ad μ s.heap H locs) {q : Option Nat} {x : Int32} {kN kO : gR} {kt : Int32 → gR} (hr : x_R R ls nL rest) (hc : cells + 3 ≤ R.cells ∧ slots + (212 + 10) ≤ R.slots) (hiN : x_hit own "java/lang/NullPointerException" pc hN hh) (hiO : x_hit own "java/lang/ArrayIndexOutOfBoundsException" pc hO hh) (d : decode cc pc = .ok (.baload, 1)) (hf : tald μ 1 q x kN kO kt = some r)
    (kkN : kN = some r → xW p l e R s m args below meth c Q Γ A nz ad μ hN ls (cells + 1) (slots + 8)) (kkO : kO = some r → xW p l e R s m args below meth c Q Γ A nz ad μ hO ls (cells + 3) (slots + (212 + 10)))
    (kk : ∀ y : Int32, kt y = some r → W p l e R s m args below meth c H locs cells slots Q (F0 m (pc + 1) ls (.int y :: rest))) : W p l e R s m args below meth c H locs cells slots Q (F0 m pc ls (.int x :: va_rf (q.map ad) :: rest)) := by
  cases q with
  | none => exact x_fN (pc := pc) (rest := rest) X Y h (fun T hT S => S.baloadNull X.hx (g := F0 m pc ls (.int x :: .null :: rest)) rfl rfl (by rw [X.hb]; exact d)) hr ⟨by omega, by omega⟩ hiN (kkN hf)
  | some i =>
    simp only [tald] at hf
    cases hg : garI μ 1 i with
    | none => rw [hg] at hf; cases hf
    | some a =>
      obtain ⟨n, f⟩ := a
      rw [hg] at hf
      dsimp only at hf
      split at hf
      · cases hf
      · rename_i hn
        have he := garI_some hg
        obtain ⟨q0, hq⟩ := h.at he
        split at hf
        · rename_i ho
          have hP := h.P q0 _ hq
          exact x_fI (pc := pc) (rest := rest) X Y h (x := x) (n := n) (by omega) (fun T hT S t ht => S.baloadOut X.hx (a := ad i) (cell := arrV (Γ.2 1) n (fun j => .int (f j))) (ty := .byte) (by rw [hT]; exact hP) ((X.K.2 1 _ rfl).1 n (fun j => .int (f j))) (by rw [arrV_size]; exact ho) (g := F0 m pc ls (.int x :: .ref (ad i) :: rest)) rfl rfl (by rw [X.hb]; exact d) t (by rw [arrV_size]; exact ht)) hr hc hiO (kkO hf)
        · rename_i ho
          exact va_bald X.hx X.hb X.K h.P q0 1 hq rfl ho d (kk _ hf)
theorem r_tbast (X : gX p m c cc nL s args own Γ A) (Y : gY l s A c hh) (h : gWd Γ A nz ad μ s.heap H locs) {q : Option Nat} {x v : Int32} {kN kO : gR} {kt : gM → gR} (hr : x_R R ls nL rest) (hc : cells + 3 ≤ R.cells ∧ slots + (212 + 10) ≤ R.slots) (hiN : x_hit own "java/lang/NullPointerException" pc hN hh) (hiO : x_hit own "java/lang/ArrayIndexOutOfBoundsException" pc hO hh) (d : decode cc pc = .ok (.bastore, 1)) (hf : tast μ 1 q x (vp_nar .byte v) kN kO kt = some r)
    (kkN : kN = some r → xW p l e R s m args below meth c Q Γ A nz ad μ hN ls (cells + 1) (slots + 8)) (kkO : kO = some r → xW p l e R s m args below meth c Q Γ A nz ad μ hO ls (cells + 3) (slots + (212 + 10)))
    (kk : ∀ (μ1 : gM) (H1 : Heap) (locs1 : List Loc), kt μ1 = some r → gWd Γ A nz ad μ1 s.heap H1 locs1 → W p l e R s m args below meth c H1 locs1 cells slots Q (F0 m (pc + 1) ls rest)) : W p l e R s m args below meth c H locs cells slots Q (F0 m pc ls (.int v :: .int x :: va_rf (q.map ad) :: rest)) := by
  cases q with
  | none => exact x_fN (pc := pc) (rest := rest) X Y h (fun T hT S => S.bastoreNull X.hx (g := F0 m pc ls (.int v :: .int x :: .null :: rest)) rfl rfl (by rw [X.hb]; exact d)) hr ⟨by omega, by omega⟩ hiN (kkN hf)
  | some i =>
    simp only [tast] at hf
    cases hg : garI μ 1 i with
    | none => rw [hg] at hf; cases hf
    | some a =>
      obtain ⟨n, f⟩ := a
      rw [hg] at hf
      dsimp only at hf
      split at hf
      · cases hf
      · rename_i hn
        have he := garI_some hg
        obtain ⟨q0, hq⟩ := h.at he
        split at hf
        · rename_i ho
          have hP := h.P q0 _ hq
          exact x_fI (pc := pc) (rest := rest) X Y h (x := x) (n := n) (by omega) (fun T hT S t ht => S.bastoreOut X.hx (a := ad i) (cell := arrV (Γ.2 1) n (fun j => .int (f j))) (ty := .byte) (by rw [hT]; exact hP) ((X.K.2 1 _ rfl).1 n (fun j => .int (f j))) (by rw [arrV_size]; exact ho) (g := F0 m pc ls (.int v :: .int x :: .ref (ad i) :: rest)) rfl rfl (by rw [X.hb]; exact d) t (by rw [arrV_size]; exact ht)) hr hc hiO (kkO hf)
        · exact r_bast X h d hf kk
theorem r_tlen (X : gX p m c cc nL s args own Γ A) (Y : gY l s A c hh) (h : gWd Γ A nz ad μ s.heap H locs) {q : Option Nat} {t : Nat} {ty : FieldType} {kN : gR} {kt : Int32 → gR} (hr : x_R R ls nL rest) (hc : cells + 1 ≤ R.cells ∧ slots + 8 ≤ R.slots) (hiN : x_hit own "java/lang/NullPointerException" pc hN hh) (ht : (gTy Γ.2)[t]? = some (Γ.2 t, ty)) (d : decode cc pc = .ok (.arraylength, 1)) (hf : tlen μ t q kN kt = some r)
    (kkN : kN = some r → xW p l e R s m args below meth c Q Γ A nz ad μ hN ls (cells + 1) (slots + 8))
    (kk : ∀ y : Int32, kt y = some r → W p l e R s m args below meth c H locs cells slots Q (F0 m (pc + 1) ls (.int y :: rest))) : W p l e R s m args below meth c H locs cells slots Q (F0 m pc ls (va_rf (q.map ad) :: rest)) := by
  cases q with
  | none => exact x_fN (pc := pc) (rest := rest) X Y h (fun T hT S => S.arraylengthNull X.hx (g := F0 m pc ls (.null :: rest)) rfl rfl (by rw [X.hb]; exact d)) hr hc hiN (kkN hf)
  | some i => exact r_len X h ht d hf kk
theorem r_tdiv (X : gX p m c cc nL s args own Γ A) (Y : gY l s A c hh) (h : gWd Γ A nz ad μ s.heap H locs) {a b : Int64} {kO : gR} {kt : Int64 → gR} (hr : x_R R ls nL rest) (hc : cells + 3 ≤ R.cells ∧ slots + (9 + 10) ≤ R.slots) (hiO : x_hit own "java/lang/ArithmeticException" pc hO hh) (d : decode cc pc = .ok (.ldiv, 1)) (hf : tdiv a b kO kt = some r)
    (kkO : kO = some r → xW p l e R s m args below meth c Q Γ A nz ad μ hO ls (cells + 3) (slots + (9 + 10)))
    (kk : ∀ y : Int64, kt y = some r → W p l e R s m args below meth c H locs cells slots Q (F0 m (pc + 1) ls (.long y :: rest))) : W p l e R s m args below meth c H locs cells slots Q (F0 m pc ls (.long b :: .long a :: rest)) := by
  simp only [tdiv] at hf
  split at hf
  · rename_i hz
    subst hz
    exact x_fDiv (pc := pc) (rest := rest) X Y h (fun T hT S => S.ldivZero X.hx (g := F0 m pc ls (.long 0 :: .long a :: rest)) rfl rfl (by rw [X.hb]; exact d)) hr hc hiO (kkO hf)
  · rename_i hz
    exact lv_ldiv X.hx X.hb d hz (kk _ hf)
theorem r_tnewI (X : gX p m c cc nL s args own Γ A) (Y : gY l s A c hh) (h : gWd Γ A nz ad μ s.heap H locs) {lim : Nat} {n : Int32} {kO : gR} {kt : gM → Nat → gR} (hr : x_R R ls nL rest) (hc : cells + 3 ≤ R.cells ∧ slots + (44 + 10) ≤ R.slots) (hiO : x_hit own "java/lang/NegativeArraySizeException" pc hO hh) (hlim : lim ≤ 100000) (hslots : slots + lim ≤ R.slots) (d : decode cc pc = .ok (.newarray .int, 2)) (hf : tna μ 0 lim n kO kt = some r)
    (kkO : kO = some r → xW p l e R s m args below meth c Q Γ A nz ad μ hO ls (cells + 3) (slots + (44 + 10)))
    (kk : ∀ (ad1 : Nat → Nat) (i : Nat) (μ1 : gM) (H1 : Heap) (locs1 : List Loc), kt μ1 i = some r → (∀ j, j < μ.1 → ad1 j = ad j) → gWd Γ A nz ad1 μ1 s.heap H1 locs1 → W p l e R s m args below meth c H1 locs1 (cells + 1) (slots + lim) Q (F0 m (pc + 2) ls (.ref (ad1 i) :: rest))) : W p l e R s m args below meth c H locs cells slots Q (F0 m pc ls (.int n :: rest)) := by
  simp only [tna] at hf
  split at hf
  · rename_i hz
    exact x_fNeg (pc := pc) (rest := rest) X Y h hz (fun T hT S => S.newarrayNegative X.hx (g := F0 m pc ls (.int n :: rest)) rfl hz rfl (by rw [X.hb]; exact d)) hr hc hiO (kkO hf)
  · exact r_newI X h (by omega) hlim hslots d hf kk
theorem r_tnewB (X : gX p m c cc nL s args own Γ A) (Y : gY l s A c hh) (h : gWd Γ A nz ad μ s.heap H locs) {lim : Nat} {n : Int32} {kO : gR} {kt : gM → Nat → gR} (hr : x_R R ls nL rest) (hc : cells + 3 ≤ R.cells ∧ slots + (44 + 10) ≤ R.slots) (hiO : x_hit own "java/lang/NegativeArraySizeException" pc hO hh) (hlim : lim ≤ 100000) (hslots : slots + lim ≤ R.slots) (d : decode cc pc = .ok (.newarray .byte, 2)) (hf : tna μ 1 lim n kO kt = some r)
    (kkO : kO = some r → xW p l e R s m args below meth c Q Γ A nz ad μ hO ls (cells + 3) (slots + (44 + 10)))
    (kk : ∀ (ad1 : Nat → Nat) (i : Nat) (μ1 : gM) (H1 : Heap) (locs1 : List Loc), kt μ1 i = some r → (∀ j, j < μ.1 → ad1 j = ad j) → gWd Γ A nz ad1 μ1 s.heap H1 locs1 → W p l e R s m args below meth c H1 locs1 (cells + 1) (slots + lim) Q (F0 m (pc + 2) ls (.ref (ad1 i) :: rest))) : W p l e R s m args below meth c H locs cells slots Q (F0 m pc ls (.int n :: rest)) := by
  simp only [tna] at hf
  split at hf
  · rename_i hz
    exact x_fNeg (pc := pc) (rest := rest) X Y h hz (fun T hT S => S.newarrayNegative X.hx (g := F0 m pc ls (.int n :: rest)) rfl hz rfl (by rw [X.hb]; exact d)) hr hc hiO (kkO hf)
  · exact r_newB X h (by omega) hlim hslots d hf kk
end GFAULT
