set_option maxRecDepth 100000
/-! X0_isHeight -/
def fX0_isHeight (μ0 : gM) (a1 : Int32) : gR := cI (fX0_isIn μ0 a1 0 9) fun x1 μ2 => rZ x1 μ2
set_option maxHeartbeats 4000000 in
theorem wX0_isHeight (l : Launch) (Γ : gG) (ad : Nat → Nat) (μ0 : gM) (a1 : Int32) (r : Option Value × gM) (hf : fX0_isHeight μ0 a1 = some r) : gMt0 l Γ yX0_isHeight (ws_ yX0_isHeight cX0_isHeight 1 (some .boolean)) ({ frames := 1, cells := 0, slots := 0, locals := 22 } : Room) 0 0 ad μ0 [.int a1] r := by
  intro sz
  refine g_start (maxL := 1) (ret := (some .boolean)) (by decide) rfl g_all (Nat.le_of_ble_eq_true rfl) ?_
  intro p e s m below meth c ls hr hlk hnm X h hl
  generalize gA ad μ0 sz = A at X h ⊢
  generalize ([.int a1] : List Value).toArray = args at X ⊢
  have X : gX p m c cX0_isHeight 1 s args "SandPiano" Γ A := X
  have hl : lv_has ls 1 [(0, .int a1)] := hl
  show W p l e ({ frames := 1, cells := 0, slots := 0, locals := 22 } : Room) s m args below meth c s.heap [] 0 0 (MQ below (gQ0 Γ ad μ0.1 r A) args s 0 0 A) (F0 m 0 ls [])
  unfold fX0_isHeight at hf
  refine lv_iload_n X.hx X.hb dX0_isHeight_0 rfl (lv_at hl 0 rfl) ?_
  refine lv_iconst (v := 0) X.hx X.hb dX0_isHeight_1 (by decide) ?_
  refine lv_bipush (v := 9) X.hx X.hb dX0_isHeight_2 (by decide) ?_
  refine r_cSI (As := [.int a1, .int 0, .int 9]) (rest := []) X h hf (fun res hres => wX0_isIn l Γ ad _ a1 0 9 res hres) (va_cwS 3 X.hts (lw_S q344 q345 q82 q346) rfl rfl rfl (by decide +kernel) ⟨Nat.le_of_ble_eq_true rfl, Nat.le_of_ble_eq_true rfl⟩) rfl ⟨hl.1, Nat.le_of_ble_eq_true rfl, Nat.le_of_ble_eq_true rfl, Nat.le_of_ble_eq_true rfl⟩ rfl dX0_isHeight_4 (fun x1 μ2 H locs hf h => ?_)
  exact r_rz X h hr hlk (Nat.le_of_ble_eq_true rfl) (Nat.le_of_ble_eq_true rfl) dX0_isHeight_7 hf
/-! X0_isLeft -/
def fX0_isLeft_L15 (b0 : Nat) (b1 : Nat) (x1 : Int32) (kx62 : Int32 → gM → gR) : Nat → Int32 → Int32 → gM → gR
  | 0, _, _, _ => none
  | n8 + 1, x5, x6, μ7 => gI (gfld μ7 b0 0 7) fun x9 => if x9 ≤ x6 then (kx62 x5 μ7) else (if x5 = 0 then (kx62 x5 μ7) else (gP (gfld μ7 b0 0 30) fun i10 => gaI μ7 0 i10 ((6 * x1) + x6) fun x11 => gP (gfld μ7 b1 1 0) fun i12 => gaI μ7 0 i12 x6 fun x13 => gjn (fun (x14 : Int32) (μ15 : gM) => gnm (x6 + 1) fun x17 => fX0_isLeft_L15 b0 b1 x1 kx62 n8 x14 x17 μ15) fun j16 => if x11 = x13 then (j16 1 μ7) else (j16 0 μ7)))
set_option maxHeartbeats 4000000 in
theorem wX0_isLeft_L15 {p : Program} {e : Env} {s : State} {m : MethodId} {args : Array Value} {below : List Frame} {meth : Method} {c : Code} {Γ : gG} {A : Nat → Prop} {nz : Nat} {ad : Nat → Nat} {r : Option Value × gM} (l : Launch) (b0 : Nat) (b1 : Nat) (x1 : Int32) (kx62 : Int32 → gM → gR) (X : gX p m c cX0_isLeft 5 s args "SandPiano" Γ A) (hr : meth.sig.returnType = (some .boolean)) (hlk : meth.locks = false) (hk62 : ∀ (x18 : Int32) (μ : gM) (H : Heap) (locs : List Loc) (ls : Array Slot), kx62 x18 μ = some r → gWd Γ A nz ad μ s.heap H locs → lv_has ls 5 [(0, .ref (ad b0)), (1, .ref (ad b1)), (2, .int x1), (3, .int x18)] → W p l e ({ frames := 0, cells := 0, slots := 0, locals := 0 } : Room) s m args below meth c H locs 0 0 (MQ below (gQ0 Γ ad nz r A) args s 0 0 A) (F0 m 62 ls [])) : ∀ (n8 : Nat) (x5 : Int32) (x6 : Int32) (μ7 : gM) (H : Heap) (locs : List Loc) (ls : Array Slot), fX0_isLeft_L15 b0 b1 x1 kx62 n8 x5 x6 μ7 = some r → gWd Γ A nz ad μ7 s.heap H locs → lv_has ls 5 [(0, .ref (ad b0)), (1, .ref (ad b1)), (2, .int x1), (3, .int x5), (4, .int x6)] → W p l e ({ frames := 0, cells := 0, slots := 0, locals := 0 } : Room) s m args below meth c H locs 0 0 (MQ below (gQ0 Γ ad nz r A) args s 0 0 A) (F0 m 15 ls []) := by
  intro n8
  induction n8 with
  | zero =>
    intro x5 x6 μ7 H locs ls hf h hl
    have hf : (none : gR) = some r := hf
    cases hf
  | succ n8 ih =>
    intro x5 x6 μ7 H locs ls hf h hl
    rw [fX0_isLeft_L15] at hf
    refine lv_iload X.hx X.hb dX0_isLeft_15 (lv_at hl 4 rfl) ?_
    refine lv_aload_n X.hx X.hb dX0_isLeft_17 rfl (lv_at hl 0 rfl) ?_
    refine r_getI X h (ci := 0) (k := 7) (C := RX0) (T := TX0) (N := 36) rfl in_X0 (by decide) q149 rfl dX0_isLeft_18 hf (fun x9 hf => ?_)
    refine lv_icmp_ge (tgt := 62) X.hx X.hb dX0_isLeft_21 (by decide) (fun hc => ?_) (fun hc => ?_)
    · replace hf := gif_t hf hc
      clear hc
      exact hk62 _ _ _ _ _ hf h (lv_sub hl [0, 1, 2, 3] rfl)
    · replace hf := gif_f hf hc
      clear hc
      refine lv_iload_n X.hx X.hb dX0_isLeft_24 rfl (lv_at hl 3 rfl) ?_
      refine lv_if_eq (tgt := 62) X.hx X.hb dX0_isLeft_25 (by decide) (fun hc => ?_) (fun hc => ?_)
      · replace hf := gif_t hf hc
        clear hc
        exact hk62 _ _ _ _ _ hf h (lv_sub hl [0, 1, 2, 3] rfl)
      · replace hf := gif_f hf hc
        clear hc
        refine lv_aload_n X.hx X.hb dX0_isLeft_28 rfl (lv_at hl 0 rfl) ?_
        refine r_getP X h (ci := 0) (k := 30) (C := RX0) (T := TX0) (N := 36) rfl in_X0 (by decide) q172 rfl dX0_isLeft_29 hf (fun i10 hf => ?_)
        refine lv_bipush (v := 6) X.hx X.hb dX0_isLeft_32 (by decide) ?_
        refine lv_iload_n X.hx X.hb dX0_isLeft_34 rfl (lv_at hl 2 rfl) ?_
        refine lv_imul X.hx X.hb dX0_isLeft_35 ?_
        refine lv_iload X.hx X.hb dX0_isLeft_36 (lv_at hl 4 rfl) ?_
        refine lv_iadd X.hx X.hb dX0_isLeft_38 ?_
        refine r_iald X h dX0_isLeft_39 hf (fun x11 hf => ?_)
        refine lv_aload_n X.hx X.hb dX0_isLeft_40 rfl (lv_at hl 1 rfl) ?_
        refine r_getNP X h (ci := 1) (k := 0) (C := RX1) (T := TX1) (N := 1) rfl in_X1 (by decide) 8 rfl rfl dX0_isLeft_41 hf (fun i12 hf => ?_)
        refine lv_iload X.hx X.hb dX0_isLeft_44 (lv_at hl 4 rfl) ?_
        refine r_iald X h dX0_isLeft_46 hf (fun x13 hf => ?_)
        refine r_jn hf (fun j16 ej16 hf => ?_)
        have hj16 : ∀ (x14 : Int32) (μ15 : gM) (H : Heap) (locs : List Loc) (ls : Array Slot), j16 x14 μ15 = some r → gWd Γ A nz ad μ15 s.heap H locs → lv_has ls 5 [(0, .ref (ad b0)), (1, .ref (ad b1)), (2, .int x1), (4, .int x6)] → W p l e ({ frames := 0, cells := 0, slots := 0, locals := 0 } : Room) s m args below meth c H locs 0 0 (MQ below (gQ0 Γ ad nz r A) args s 0 0 A) (F0 m 55 ls [.int x14]) := by
          intro x14 μ15 H locs ls hf h hl
          rw [ej16] at hf
          refine lv_istore_n (lv' := [(3, .int x14), (0, .ref (ad b0)), (1, .ref (ad b1)), (2, .int x1), (4, .int x6)]) X.hx X.hb dX0_isLeft_55 rfl hl (by decide) rfl (fun ls hl => ?_)
          refine r_nmk hf (fun x17 ex hf => ?_)
          refine lv_iinc (v := x17) (lv' := [(4, .int x17), (3, .int x14), (0, .ref (ad b0)), (1, .ref (ad b1)), (2, .int x1)]) X.hx X.hb dX0_isLeft_56 hl (k := 4) rfl (by rw [ex]; rfl) (by decide) rfl (fun ls hl => ?_)
          clear ex
          refine lv_goto (tgt := 15) X.hx X.hb dX0_isLeft_59 (by decide) ?_
          exact ih _ _ _ _ _ _ hf h (lv_sub hl [2, 3, 4, 1, 0] rfl)
        clear ej16
        refine lv_icmp_ne (tgt := 54) X.hx X.hb dX0_isLeft_47 (by decide) (fun hc => ?_) (fun hc => ?_)
        · replace hf := gif_f hf hc
          clear hc
          refine lv_iconst (v := 0) X.hx X.hb dX0_isLeft_54 (by decide) ?_
          exact hj16 _ _ _ _ _ hf h (lv_sub hl [0, 1, 2, 4] rfl)
        · replace hf := gif_t hf hc
          clear hc
          refine lv_iconst (v := 1) X.hx X.hb dX0_isLeft_50 (by decide) ?_
          refine lv_goto (tgt := 55) X.hx X.hb dX0_isLeft_51 (by decide) ?_
          exact hj16 _ _ _ _ _ hf h (lv_sub hl [0, 1, 2, 4] rfl)
def fX0_isLeft_L2 (b0 : Nat) (b1 : Nat) : Nat → Int32 → gM → gR
  | 0, _, _ => none
  | n3 + 1, x1, μ2 => gI (gfld μ2 b0 0 31) fun x4 => if x4 ≤ x1 then (rZ 0 μ2) else (fX0_isLeft_L15 b0 b1 x1 (fun (x19 : Int32) (μ20 : gM) => if x19 = 0 then (gnm (x1 + 1) fun x21 => fX0_isLeft_L2 b0 b1 n3 x21 μ20) else (rZ 1 μ20)) 10000 1 0 μ2)
set_option maxHeartbeats 4000000 in
theorem wX0_isLeft_L2 {p : Program} {e : Env} {s : State} {m : MethodId} {args : Array Value} {below : List Frame} {meth : Method} {c : Code} {Γ : gG} {A : Nat → Prop} {nz : Nat} {ad : Nat → Nat} {r : Option Value × gM} (l : Launch) (b0 : Nat) (b1 : Nat) (X : gX p m c cX0_isLeft 5 s args "SandPiano" Γ A) (hr : meth.sig.returnType = (some .boolean)) (hlk : meth.locks = false) : ∀ (n3 : Nat) (x1 : Int32) (μ2 : gM) (H : Heap) (locs : List Loc) (ls : Array Slot), fX0_isLeft_L2 b0 b1 n3 x1 μ2 = some r → gWd Γ A nz ad μ2 s.heap H locs → lv_has ls 5 [(0, .ref (ad b0)), (1, .ref (ad b1)), (2, .int x1)] → W p l e ({ frames := 0, cells := 0, slots := 0, locals := 0 } : Room) s m args below meth c H locs 0 0 (MQ below (gQ0 Γ ad nz r A) args s 0 0 A) (F0 m 2 ls []) := by
  intro n3
  induction n3 with
  | zero =>
    intro x1 μ2 H locs ls hf h hl
    have hf : (none : gR) = some r := hf
    cases hf
  | succ n3 ih =>
    intro x1 μ2 H locs ls hf h hl
    rw [fX0_isLeft_L2] at hf
    refine lv_iload_n X.hx X.hb dX0_isLeft_2 rfl (lv_at hl 2 rfl) ?_
    refine lv_aload_n X.hx X.hb dX0_isLeft_3 rfl (lv_at hl 0 rfl) ?_
    refine r_getI X h (ci := 0) (k := 31) (C := RX0) (T := TX0) (N := 36) rfl in_X0 (by decide) q173 rfl dX0_isLeft_4 hf (fun x4 hf => ?_)
    refine lv_icmp_ge (tgt := 74) X.hx X.hb dX0_isLeft_7 (by decide) (fun hc => ?_) (fun hc => ?_)
    · replace hf := gif_t hf hc
      clear hc
      refine lv_iconst (v := 0) X.hx X.hb dX0_isLeft_74 (by decide) ?_
      exact r_rz X h hr hlk (Nat.le_of_ble_eq_true rfl) (Nat.le_of_ble_eq_true rfl) dX0_isLeft_75 hf
    · replace hf := gif_f hf hc
      clear hc
      refine lv_iconst (v := 1) X.hx X.hb dX0_isLeft_10 (by decide) ?_
      refine lv_istore_n (lv' := [(3, .int 1), (0, .ref (ad b0)), (1, .ref (ad b1)), (2, .int x1)]) X.hx X.hb dX0_isLeft_11 rfl hl (by decide) rfl (fun ls hl => ?_)
      refine lv_iconst (v := 0) X.hx X.hb dX0_isLeft_12 (by decide) ?_
      refine lv_istore (lv' := [(4, .int 0), (3, .int 1), (0, .ref (ad b0)), (1, .ref (ad b1)), (2, .int x1)]) X.hx X.hb dX0_isLeft_13 hl (by decide) rfl (fun ls hl => ?_)
      refine wX0_isLeft_L15 l b0 b1 x1 _ X hr hlk (fun x19 μ20 H locs ls hf h hl => ?_) 10000 _ _ _ _ _ _ hf h (lv_sub hl [2, 3, 4, 1, 0] rfl)
      refine lv_iload_n X.hx X.hb dX0_isLeft_62 rfl (lv_at hl 3 rfl) ?_
      refine lv_if_eq (tgt := 68) X.hx X.hb dX0_isLeft_63 (by decide) (fun hc => ?_) (fun hc => ?_)
      · replace hf := gif_t hf hc
        clear hc
        refine r_nmk hf (fun x21 ex hf => ?_)
        refine lv_iinc (v := x21) (lv' := [(2, .int x21), (0, .ref (ad b0)), (1, .ref (ad b1)), (3, .int x19)]) X.hx X.hb dX0_isLeft_68 hl (k := 2) rfl (by rw [ex]; rfl) (by decide) rfl (fun ls hl => ?_)
        clear ex
        refine lv_goto (tgt := 2) X.hx X.hb dX0_isLeft_71 (by decide) ?_
        exact ih _ _ _ _ _ hf h (lv_sub hl [1, 2, 0] rfl)
      · replace hf := gif_f hf hc
        clear hc
        refine lv_iconst (v := 1) X.hx X.hb dX0_isLeft_66 (by decide) ?_
        exact r_rz X h hr hlk (Nat.le_of_ble_eq_true rfl) (Nat.le_of_ble_eq_true rfl) dX0_isLeft_67 hf
def fX0_isLeft (μ0 : gM) (b0 : Nat) (b1 : Nat) : gR := fX0_isLeft_L2 b0 b1 10000 0 μ0
set_option maxHeartbeats 4000000 in
theorem wX0_isLeft (l : Launch) (Γ : gG) (ad : Nat → Nat) (μ0 : gM) (b0 : Nat) (b1 : Nat) (r : Option Value × gM) (hf : fX0_isLeft μ0 b0 b1 = some r) : gMt0 l Γ yX0_isLeft (ws_ yX0_isLeft cX0_isLeft 5 (some .boolean)) ({ frames := 0, cells := 0, slots := 0, locals := 0 } : Room) 0 0 ad μ0 [.ref (ad b0), .ref (ad b1)] r := by
  intro sz
  refine g_start (maxL := 5) (ret := (some .boolean)) (by decide) rfl g_all (Nat.le_of_ble_eq_true rfl) ?_
  intro p e s m below meth c ls hr hlk hnm X h hl
  generalize gA ad μ0 sz = A at X h ⊢
  generalize ([.ref (ad b0), .ref (ad b1)] : List Value).toArray = args at X ⊢
  have X : gX p m c cX0_isLeft 5 s args "SandPiano" Γ A := X
  have hl : lv_has ls 5 [(0, .ref (ad b0)), (1, .ref (ad b1))] := hl
  show W p l e ({ frames := 0, cells := 0, slots := 0, locals := 0 } : Room) s m args below meth c s.heap [] 0 0 (MQ below (gQ0 Γ ad μ0.1 r A) args s 0 0 A) (F0 m 0 ls [])
  unfold fX0_isLeft at hf
  refine lv_iconst (v := 0) X.hx X.hb dX0_isLeft_0 (by decide) ?_
  refine lv_istore_n (lv' := [(2, .int 0), (0, .ref (ad b0)), (1, .ref (ad b1))]) X.hx X.hb dX0_isLeft_1 rfl hl (by decide) rfl (fun ls hl => ?_)
  refine wX0_isLeft_L2 l b0 b1 X hr hlk 10000 _ _ _ _ _ hf h (lv_sub hl [1, 2, 0] rfl)
/-! X0_judge -/
def fX0_judge (μ0 : gM) (b0 : Nat) (a1 : Int32) : gR := cI (fX0_isRow μ0 a1) fun x1 μ2 => if x1 = 0 then (some (some (.int (-1)), μ2)) else (gis μ2 b0 0 <| cI (fX0_askedPiece μ2 b0 a1) fun x3 μ4 => if 0 ≤ x3 then (gP (gfld μ4 b0 0 22) fun i5 => gP (gfld μ4 b0 0 10) fun i6 => gis μ4 i5 1 <| cV (fX1_take μ4 i5 i6) fun μ7 => gP (gfld μ7 b0 0 22) fun i8 => gP (gfld μ7 b0 0 5) fun i9 => gaQ μ7 3 i9 a1 fun o10 => gnn o10 fun i11 => gis μ7 b0 0 <| cI (fX0_playOn μ7 b0 i8 i11) fun x12 μ13 => gP (gfld μ13 b0 0 22) fun i14 => gP (gfld μ13 i14 1 0) fun i15 => gaI μ13 0 i15 6 fun x16 => gP (gfld μ13 b0 0 10) fun i17 => gP (gfld μ13 i17 1 0) fun i18 => gaI μ13 0 i18 6 fun x19 => gis μ13 b0 0 <| cI (fX0_ask μ13 b0 (x16 - x19) x12) fun x20 μ21 => some (some (.int x20), μ21)) else (some (some (.int x3), μ4)))
set_option maxHeartbeats 4000000 in
theorem wX0_judge (l : Launch) (Γ : gG) (ad : Nat → Nat) (μ0 : gM) (b0 : Nat) (a1 : Int32) (r : Option Value × gM) (hf : fX0_judge μ0 b0 a1 = some r) : gMt0 l Γ yX0_judge (ws_ yX0_judge cX0_judge 4 (some .int)) ({ frames := 5, cells := 0, slots := 0, locals := 112 } : Room) 0 0 ad μ0 [.ref (ad b0), .int a1] r := by
  intro sz
  refine g_start (maxL := 4) (ret := (some .int)) (by decide) rfl g_all (Nat.le_of_ble_eq_true rfl) ?_
  intro p e s m below meth c ls hr hlk hnm X h hl
  generalize gA ad μ0 sz = A at X h ⊢
  generalize ([.ref (ad b0), .int a1] : List Value).toArray = args at X ⊢
  have X : gX p m c cX0_judge 4 s args "SandPiano" Γ A := X
  have hl : lv_has ls 4 [(0, .ref (ad b0)), (1, .int a1)] := hl
  show W p l e ({ frames := 5, cells := 0, slots := 0, locals := 112 } : Room) s m args below meth c s.heap [] 0 0 (MQ below (gQ0 Γ ad μ0.1 r A) args s 0 0 A) (F0 m 0 ls [])
  unfold fX0_judge at hf
  refine lv_iload_n X.hx X.hb dX0_judge_0 rfl (lv_at hl 1 rfl) ?_
  refine r_cSI (As := [.int a1]) (rest := []) X h hf (fun res hres => wX0_isRow l Γ ad _ a1 res hres) (va_cwS 1 X.hts (lw_S q341 q342 q82 q343) rfl rfl rfl (by decide +kernel) ⟨Nat.le_of_ble_eq_true rfl, Nat.le_of_ble_eq_true rfl⟩) rfl ⟨hl.1, Nat.le_of_ble_eq_true rfl, Nat.le_of_ble_eq_true rfl, Nat.le_of_ble_eq_true rfl⟩ rfl dX0_judge_1 (fun x1 μ2 H locs hf h => ?_)
  refine lv_if_ne (tgt := 9) X.hx X.hb dX0_judge_4 (by decide) (fun hc => ?_) (fun hc => ?_)
  · replace hf := gif_f hf hc
    clear hc
    refine lv_aload_n X.hx X.hb dX0_judge_9 rfl (lv_at hl 0 rfl) ?_
    refine lv_iload_n X.hx X.hb dX0_judge_10 rfl (lv_at hl 1 rfl) ?_
    refine r_cVI (As := [.int a1]) (rest := []) (C := RX0) (T := TX0) (N := 36) X h hf (fun res hres => wX0_askedPiece l Γ ad _ b0 a1 res hres) rfl (cwV 1 X.hts (lw_V q845 q847 qs17 q82 q848) rfl rfl rfl (by decide +kernel) ⟨Nat.le_of_ble_eq_true rfl, Nat.le_of_ble_eq_true rfl⟩) rfl ⟨hl.1, Nat.le_of_ble_eq_true rfl, Nat.le_of_ble_eq_true rfl, Nat.le_of_ble_eq_true rfl⟩ rfl dX0_judge_11 (fun x3 μ4 H locs hf h => ?_)
    refine lv_istore_n (lv' := [(2, .int x3), (0, .ref (ad b0)), (1, .int a1)]) X.hx X.hb dX0_judge_14 rfl hl (by decide) rfl (fun ls hl => ?_)
    refine lv_iload_n X.hx X.hb dX0_judge_15 rfl (lv_at hl 0 rfl) ?_
    refine lv_if_ge (tgt := 21) X.hx X.hb dX0_judge_16 (by decide) (fun hc => ?_) (fun hc => ?_)
    · replace hf := gif_t hf hc
      clear hc
      refine lv_aload_n X.hx X.hb dX0_judge_21 rfl (lv_at hl 1 rfl) ?_
      refine r_getP X h (ci := 0) (k := 22) (C := RX0) (T := TX0) (N := 36) rfl in_X0 (by decide) q164 rfl dX0_judge_22 hf (fun i5 hf => ?_)
      refine lv_aload_n X.hx X.hb dX0_judge_25 rfl (lv_at hl 1 rfl) ?_
      refine r_getP X h (ci := 0) (k := 10) (C := RX0) (T := TX0) (N := 36) rfl in_X0 (by decide) q152 rfl dX0_judge_26 hf (fun i6 hf => ?_)
      refine r_cVV (As := [.ref (ad i6)]) (rest := []) (C := RX1) (T := TX1) (N := 1) X h hf (fun res hres => wX1_take l Γ ad _ i5 i6 res hres) rfl (cwV 1 X.hts (lw_V q832 q833 q834 q83 q835) rfl rfl rfl (by decide +kernel) ⟨Nat.le_of_ble_eq_true rfl, Nat.le_of_ble_eq_true rfl⟩) rfl ⟨hl.1, Nat.le_of_ble_eq_true rfl, Nat.le_of_ble_eq_true rfl, Nat.le_of_ble_eq_true rfl⟩ rfl dX0_judge_29 (fun μ7 H locs hf h => ?_)
      refine lv_aload_n X.hx X.hb dX0_judge_32 rfl (lv_at hl 1 rfl) ?_
      refine lv_aload_n X.hx X.hb dX0_judge_33 rfl (lv_at hl 1 rfl) ?_
      refine r_getP X h (ci := 0) (k := 22) (C := RX0) (T := TX0) (N := 36) rfl in_X0 (by decide) q164 rfl dX0_judge_34 hf (fun i8 hf => ?_)
      refine lv_aload_n X.hx X.hb dX0_judge_37 rfl (lv_at hl 1 rfl) ?_
      refine r_getP X h (ci := 0) (k := 5) (C := RX0) (T := TX0) (N := 36) rfl in_X0 (by decide) q146 rfl dX0_judge_38 hf (fun i9 hf => ?_)
      refine lv_iload_n X.hx X.hb dX0_judge_41 rfl (lv_at hl 2 rfl) ?_
      refine r_aald X h (t := 3) rfl rfl dX0_judge_42 hf (fun o10 hf => ?_)
      refine r_nn hf (fun i11 hf => ?_)
      refine r_cVI (As := [.ref (ad i8), .ref (ad i11)]) (rest := []) (C := RX0) (T := TX0) (N := 36) X h hf (fun res hres => wX0_playOn l Γ ad _ b0 i8 i11 res hres) rfl (cwV 2 X.hts (lw_V q849 q851 qs18 q82 q852) rfl rfl rfl (by decide +kernel) ⟨Nat.le_of_ble_eq_true rfl, Nat.le_of_ble_eq_true rfl⟩) rfl ⟨hl.1, Nat.le_of_ble_eq_true rfl, Nat.le_of_ble_eq_true rfl, Nat.le_of_ble_eq_true rfl⟩ rfl dX0_judge_43 (fun x12 μ13 H locs hf h => ?_)
      refine lv_istore_n (lv' := [(3, .int x12), (2, .int x3), (0, .ref (ad b0)), (1, .int a1)]) X.hx X.hb dX0_judge_46 rfl hl (by decide) rfl (fun ls hl => ?_)
      refine lv_aload_n X.hx X.hb dX0_judge_47 rfl (lv_at hl 2 rfl) ?_
      refine lv_aload_n X.hx X.hb dX0_judge_48 rfl (lv_at hl 2 rfl) ?_
      refine r_getP X h (ci := 0) (k := 22) (C := RX0) (T := TX0) (N := 36) rfl in_X0 (by decide) q164 rfl dX0_judge_49 hf (fun i14 hf => ?_)
      refine r_getNP X h (ci := 1) (k := 0) (C := RX1) (T := TX1) (N := 1) rfl in_X1 (by decide) 8 rfl rfl dX0_judge_52 hf (fun i15 hf => ?_)
      refine lv_bipush (v := 6) X.hx X.hb dX0_judge_55 (by decide) ?_
      refine r_iald X h dX0_judge_57 hf (fun x16 hf => ?_)
      refine lv_aload_n X.hx X.hb dX0_judge_58 rfl (lv_at hl 2 rfl) ?_
      refine r_getP X h (ci := 0) (k := 10) (C := RX0) (T := TX0) (N := 36) rfl in_X0 (by decide) q152 rfl dX0_judge_59 hf (fun i17 hf => ?_)
      refine r_getNP X h (ci := 1) (k := 0) (C := RX1) (T := TX1) (N := 1) rfl in_X1 (by decide) 8 rfl rfl dX0_judge_62 hf (fun i18 hf => ?_)
      refine lv_bipush (v := 6) X.hx X.hb dX0_judge_65 (by decide) ?_
      refine r_iald X h dX0_judge_67 hf (fun x19 hf => ?_)
      refine lv_isub X.hx X.hb dX0_judge_68 ?_
      refine lv_iload_n X.hx X.hb dX0_judge_69 rfl (lv_at hl 0 rfl) ?_
      refine r_cVI (As := [.int (x16 - x19), .int x12]) (rest := []) (C := RX0) (T := TX0) (N := 36) X h hf (fun res hres => wX0_ask l Γ ad _ b0 (x16 - x19) x12 res hres) rfl (cwV 2 X.hts (lw_V q403 q405 qs3 q82 q406) rfl rfl rfl (by decide +kernel) ⟨Nat.le_of_ble_eq_true rfl, Nat.le_of_ble_eq_true rfl⟩) rfl ⟨hl.1, Nat.le_of_ble_eq_true rfl, Nat.le_of_ble_eq_true rfl, Nat.le_of_ble_eq_true rfl⟩ rfl dX0_judge_70 (fun x20 μ21 H locs hf h => ?_)
      exact r_ri X h hr hlk (Nat.le_of_ble_eq_true rfl) (Nat.le_of_ble_eq_true rfl) dX0_judge_73 hf
    · replace hf := gif_f hf hc
      clear hc
      refine lv_iload_n X.hx X.hb dX0_judge_19 rfl (lv_at hl 0 rfl) ?_
      exact r_ri X h hr hlk (Nat.le_of_ble_eq_true rfl) (Nat.le_of_ble_eq_true rfl) dX0_judge_20 hf
  · replace hf := gif_t hf hc
    clear hc
    refine lv_iconst (v := (-1)) X.hx X.hb dX0_judge_7 (by decide) ?_
    exact r_ri X h hr hlk (Nat.le_of_ble_eq_true rfl) (Nat.le_of_ble_eq_true rfl) dX0_judge_8 hf
/-! X9_init -/
def fX9_init (μ0 : gM) (b0 : Nat) : gR := glv μ0 b0 <| gno μ0 1 [.null] fun μ2 i3 => glv μ2 b0 <| glv μ2 i3 <| cV (fX1_init μ2 i3) fun μ4 => glv μ4 i3 <| gpf μ4 b0 9 0 (.ref i3) fun μ6 => glv μ6 b0 <| gna μ6 0 540 540 fun μ8 i9 => glv μ8 i9 <| gpf μ8 b0 9 1 (.ref i9) fun μ10 => some (none, μ10)
set_option maxHeartbeats 4000000 in
theorem wX9_init (l : Launch) (Γ : gG) (ad : Nat → Nat) (μ0 : gM) (b0 : Nat) (r : Option Value × gM) (hf : fX9_init μ0 b0 = some r) : gMt1 l Γ yX9_init (ws_ yX9_init cX9_init 1 none) ({ frames := 2, cells := 3, slots := 550, locals := 40 } : Room) 3 550 ad μ0 [.ref (ad b0)] r := by
  intro sz
  refine g_start (maxL := 1) (ret := none) (by decide) rfl g_all (Nat.le_of_ble_eq_true rfl) ?_
  intro p e s m below meth c ls hr hlk hnm X h hl
  generalize gA ad μ0 sz = A at X h ⊢
  generalize ([.ref (ad b0)] : List Value).toArray = args at X ⊢
  have X : gX p m c cX9_init 1 s args "SandPiano$Kept" Γ A := X
  have hl : lv_has ls 1 [(0, .ref (ad b0))] := hl
  show W p l e ({ frames := 2, cells := 3, slots := 550, locals := 40 } : Room) s m args below meth c s.heap [] 0 0 (MQ below (gQ1 Γ ad μ0.1 r A) args s 3 550 A) (F0 m 0 ls [])
  unfold fX9_init at hf
  have hag : ∀ i, i < μ0.1 → ad i = ad i := fun _ _ => rfl
  refine lv_aload_n X.hx X.hb dX9_init_0 rfl (lv_at hl 0 rfl) ?_
  refine W.objInit X.hx X.hb X.hown (X.hts _ q814) (X.hts _ q111) (X.hts _ q112) rfl (by rw [X.hml]; exact hl.1) rfl dX9_init_1 (Nat.le_of_ble_eq_true rfl) (Nat.le_of_ble_eq_true rfl) ?_
  refine W.eq (g2 := F0 m 4 ls []) rfl ?_
  refine lv_aload_n X.hx X.hb dX9_init_4 rfl (lv_at hl 0 rfl) ?_
  obtain ⟨⟨ek0, hek0⟩, hf⟩ := glv_some hf
  have hlt0 := (h.1 _ _ hek0).1
  clear hek0 ek0
  have hle := h.2.2.2
  refine r_newO X h (C := RX1) (T := TX1) (N := 1) (ty := tyX1) rfl in_X1 tyX1_ok q815 q120 q83 (fun j hj => by rcases (show j = 0 by omega) with rfl <;> rfl) (by intro v hv j; simp only [List.mem_cons, List.not_mem_nil, or_false] at hv; rcases hv with rfl <;> exact fun h9 => by cases h9) (Nat.le_of_ble_eq_true rfl) (Nat.le_of_ble_eq_true rfl) dX9_init_5 hf (fun ad1 i3 μ2 H locs hf hag1 h => ?_)
  replace hl : lv_has ls 1 [(0, .ref (ad1 b0))] := by rw [hag1 b0 hlt0]; exact hl
  replace hag : ∀ i, i < μ0.1 → ad1 i = ad i := fun i hi => (hag1 i (Nat.lt_of_lt_of_le hi hle)).trans (hag i hi)
  refine W.eq (g2 := F0 m 8 ls [.ref (ad1 i3), .ref (ad1 b0)]) (by rw [hag1 b0 hlt0]) ?_
  clear hag1 hle hlt0
  refine lv_dup X.hx X.hb dX9_init_8 rfl ?_
  obtain ⟨⟨ek0, hek0⟩, hf⟩ := glv_some hf
  have hlt0 := (h.1 _ _ hek0).1
  clear hek0 ek0
  obtain ⟨⟨ek1, hek1⟩, hf⟩ := glv_some hf
  have hlt1 := (h.1 _ _ hek1).1
  clear hek1 ek1
  have hle := h.2.2.2
  refine r_cX1 X h (rest := [.ref (ad1 i3), .ref (ad1 b0)]) (mc := 1) (ms := 9) hf (fun res hres => ⟨_, g_runIN (i := i3) (As := []) X h (wX1_init l Γ ad1 _ i3 res hres _) (⟨va_cnB 0 X.hts (lw_meth q123) rfl rfl rfl (X.2.1.2.1 2 _ rfl) (X.hts _ q83) (by decide +kernel) ⟨Nat.le_of_ble_eq_true rfl, Nat.le_of_ble_eq_true rfl⟩, rfl, X.hts _ q122⟩) rfl ⟨hl.1, Nat.le_of_ble_eq_true rfl, Nat.le_of_ble_eq_true rfl, Nat.le_of_ble_eq_true rfl⟩ rfl dX9_init_9⟩) (fun ad5 μ4 H locs hf hag1 h => ?_)
  replace hl : lv_has ls 1 [(0, .ref (ad5 b0))] := by rw [hag1 b0 hlt0]; exact hl
  replace hag : ∀ i, i < μ0.1 → ad5 i = ad i := fun i hi => (hag1 i (Nat.lt_of_lt_of_le hi hle)).trans (hag i hi)
  refine W.eq (g2 := F0 m 12 ls [.ref (ad5 i3), .ref (ad5 b0)]) (by rw [hag1 b0 hlt0, hag1 i3 hlt1]) ?_
  clear hag1 hle hlt0 hlt1
  obtain ⟨hlv, hf⟩ := glv_some hf
  refine r_putF X h (ci := 9) (k := 0) (C := RX9) (T := TX9) (N := 4) (ty0 := tyX9) (ty := .object "SandPiano$Sands") (v := .ref i3) rfl in_X9 tyX9_ok nmX9 (by decide) q817 rfl rfl hnm rfl (by decide +kernel) rfl rfl (fun j hj => by cases hj; exact hlv) dX9_init_12 hf (fun μ6 H locs hf h => ?_)
  refine lv_aload_n X.hx X.hb dX9_init_15 rfl (lv_at hl 0 rfl) ?_
  refine lv_sipush (v := 540) X.hx X.hb dX9_init_16 (by decide) ?_
  obtain ⟨⟨ek0, hek0⟩, hf⟩ := glv_some hf
  have hlt0 := (h.1 _ _ hek0).1
  clear hek0 ek0
  have hle := h.2.2.2
  refine r_newI X h (lim := 540) (Nat.le_of_ble_eq_true rfl) (Nat.le_of_ble_eq_true rfl) (Nat.le_of_ble_eq_true rfl) dX9_init_19 hf (fun ad7 i9 μ8 H locs hf hag1 h => ?_)
  replace hl : lv_has ls 1 [(0, .ref (ad7 b0))] := by rw [hag1 b0 hlt0]; exact hl
  replace hag : ∀ i, i < μ0.1 → ad7 i = ad i := fun i hi => (hag1 i (Nat.lt_of_lt_of_le hi hle)).trans (hag i hi)
  refine W.eq (g2 := F0 m 21 ls [.ref (ad7 i9), .ref (ad7 b0)]) (by rw [hag1 b0 hlt0]) ?_
  clear hag1 hle hlt0
  obtain ⟨hlv, hf⟩ := glv_some hf
  refine r_putF X h (ci := 9) (k := 1) (C := RX9) (T := TX9) (N := 4) (ty0 := tyX9) (ty := .array .int) (v := .ref i9) rfl in_X9 tyX9_ok nmX9 (by decide) q819 rfl rfl hnm rfl (by decide +kernel) rfl rfl (fun j hj => by cases hj; exact hlv) dX9_init_21 hf (fun μ10 H locs hf h => ?_)
  exact r_rv1 X h hag hr hlk (Nat.le_of_ble_eq_true rfl) (Nat.le_of_ble_eq_true rfl) dX9_init_24 hf
/-! X0_keep -/
def fX0_keep (μ0 : gM) (b0 : Nat) (a1 : Int32) : gR := cI (fX0_isKept μ0 a1) fun x1 μ2 => if x1 = 0 then (some (some (.int (-1)), μ2)) else (gI (gfld μ2 b0 0 7) fun x3 => if x3 = 0 then (some (some (.int (-4)), μ2)) else (gP (gfld μ2 b0 0 21) fun i4 => gaQ μ2 6 i4 a1 fun o5 => gjn (fun  (μ6 : gM) => gP (gfld μ6 b0 0 21) fun i9 => gaQ μ6 6 i9 a1 fun o10 => gnn o10 fun i11 => gP (gfld μ6 i11 9 0) fun i12 => gP (gfld μ6 b0 0 10) fun i13 => gis μ6 i12 1 <| cV (fX1_take μ6 i12 i13) fun μ14 => gP (gfld μ14 b0 0 20) fun i15 => gP (gfld μ14 b0 0 21) fun i16 => gaQ μ14 6 i16 a1 fun o17 => gnn o17 fun i18 => gP (gfld μ14 i18 9 1) fun i19 => gcp μ14 i15 0 i19 0 540 fun μ20 => gP (gfld μ20 b0 0 21) fun i21 => gaQ μ20 6 i21 a1 fun o22 => gnn o22 fun i23 => gI (gfld μ20 b0 0 19) fun x24 => gpf μ20 i23 9 2 (.int x24) fun μ25 => gP (gfld μ25 b0 0 21) fun i26 => gaQ μ25 6 i26 a1 fun o27 => gnn o27 fun i28 => gI (gfld μ25 b0 0 8) fun x29 => gpf μ25 i28 9 3 (.int x29) fun μ30 => gI (gfld μ30 b0 0 19) fun x31 => some (some (.int x31), μ30)) fun j7 => gnu o5 (gP (gfld μ2 b0 0 21) fun i32 => glv μ2 b0 <| glv μ2 i32 <| gno μ2 9 [.null, .null, .int 0, .int 0] fun μ34 i35 => glv μ34 b0 <| glv μ34 i32 <| glv μ34 i35 <| cV (fX9_init μ34 i35) fun μ36 => gis μ36 i35 9 <| gsQ μ36 6 i32 a1 (some i35) fun μ38 => j7 μ38) (j7 μ2)))
set_option maxHeartbeats 4000000 in
theorem wX0_keep (l : Launch) (Γ : gG) (ad : Nat → Nat) (μ0 : gM) (b0 : Nat) (a1 : Int32) (r : Option Value × gM) (hf : fX0_keep μ0 b0 a1 = some r) : gMt1 l Γ yX0_keep (ws_ yX0_keep cX0_keep 2 (some .int)) ({ frames := 3, cells := 4, slots := 554, locals := 60 } : Room) 4 554 ad μ0 [.ref (ad b0), .int a1] r := by
  intro sz
  refine g_start (maxL := 2) (ret := (some .int)) (by decide) rfl g_all (Nat.le_of_ble_eq_true rfl) ?_
  intro p e s m below meth c ls hr hlk hnm X h hl
  generalize gA ad μ0 sz = A at X h ⊢
  generalize ([.ref (ad b0), .int a1] : List Value).toArray = args at X ⊢
  have X : gX p m c cX0_keep 2 s args "SandPiano" Γ A := X
  have hl : lv_has ls 2 [(0, .ref (ad b0)), (1, .int a1)] := hl
  show W p l e ({ frames := 3, cells := 4, slots := 554, locals := 60 } : Room) s m args below meth c s.heap [] 0 0 (MQ below (gQ1 Γ ad μ0.1 r A) args s 4 554 A) (F0 m 0 ls [])
  unfold fX0_keep at hf
  have hag : ∀ i, i < μ0.1 → ad i = ad i := fun _ _ => rfl
  refine lv_iload_n X.hx X.hb dX0_keep_0 rfl (lv_at hl 1 rfl) ?_
  refine r_cSI (As := [.int a1]) (rest := []) X h hf (fun res hres => wX0_isKept l Γ ad _ a1 res hres) (va_cwS 1 X.hts (lw_S q807 q808 q82 q809) rfl rfl rfl (by decide +kernel) ⟨Nat.le_of_ble_eq_true rfl, Nat.le_of_ble_eq_true rfl⟩) rfl ⟨hl.1, Nat.le_of_ble_eq_true rfl, Nat.le_of_ble_eq_true rfl, Nat.le_of_ble_eq_true rfl⟩ rfl dX0_keep_1 (fun x1 μ2 H locs hf h => ?_)
  refine lv_if_ne (tgt := 9) X.hx X.hb dX0_keep_4 (by decide) (fun hc => ?_) (fun hc => ?_)
  · replace hf := gif_f hf hc
    clear hc
    refine lv_aload_n X.hx X.hb dX0_keep_9 rfl (lv_at hl 0 rfl) ?_
    refine r_getI X h (ci := 0) (k := 7) (C := RX0) (T := TX0) (N := 36) rfl in_X0 (by decide) q149 rfl dX0_keep_10 hf (fun x3 hf => ?_)
    refine lv_if_ne (tgt := 19) X.hx X.hb dX0_keep_13 (by decide) (fun hc => ?_) (fun hc => ?_)
    · replace hf := gif_f hf hc
      clear hc
      refine lv_aload_n X.hx X.hb dX0_keep_19 rfl (lv_at hl 0 rfl) ?_
      refine r_getP X h (ci := 0) (k := 21) (C := RX0) (T := TX0) (N := 36) rfl in_X0 (by decide) q163 rfl dX0_keep_20 hf (fun i4 hf => ?_)
      refine lv_iload_n X.hx X.hb dX0_keep_23 rfl (lv_at hl 1 rfl) ?_
      refine r_aald X h (t := 6) rfl rfl dX0_keep_24 hf (fun o5 hf => ?_)
      refine r_jn hf (fun j7 ej7 hf => ?_)
      have hj7 : ∀  (μ6 : gM) (ad8 : Nat → Nat) (H : Heap) (locs : List Loc) (ls : Array Slot), (∀ i, i < μ0.1 → ad8 i = ad i) → j7  μ6 = some r → gWd Γ A μ0.1 ad8 μ6 s.heap H locs → lv_has ls 2 [(0, .ref (ad8 b0)), (1, .int a1)] → W p l e ({ frames := 3, cells := 4, slots := 554, locals := 60 } : Room) s m args below meth c H locs 4 554 (MQ below (gQ1 Γ ad μ0.1 r A) args s 4 554 A) (F0 m 41 ls []) := by
        intro μ6 ad8 H locs ls hag hf h hl
        rw [ej7] at hf
        refine lv_aload_n X.hx X.hb dX0_keep_41 rfl (lv_at hl 0 rfl) ?_
        refine r_getP X h (ci := 0) (k := 21) (C := RX0) (T := TX0) (N := 36) rfl in_X0 (by decide) q163 rfl dX0_keep_42 hf (fun i9 hf => ?_)
        refine lv_iload_n X.hx X.hb dX0_keep_45 rfl (lv_at hl 1 rfl) ?_
        refine r_aald X h (t := 6) rfl rfl dX0_keep_46 hf (fun o10 hf => ?_)
        refine r_nn hf (fun i11 hf => ?_)
        refine r_getNP X h (ci := 9) (k := 0) (C := RX9) (T := TX9) (N := 4) rfl in_X9 (by decide) 10 rfl rfl dX0_keep_47 hf (fun i12 hf => ?_)
        refine lv_aload_n X.hx X.hb dX0_keep_50 rfl (lv_at hl 0 rfl) ?_
        refine r_getP X h (ci := 0) (k := 10) (C := RX0) (T := TX0) (N := 36) rfl in_X0 (by decide) q152 rfl dX0_keep_51 hf (fun i13 hf => ?_)
        refine r_cVV (As := [.ref (ad8 i13)]) (rest := []) (C := RX1) (T := TX1) (N := 1) X h hf (fun res hres => wX1_take l Γ ad8 _ i12 i13 res hres) rfl (cwV 1 X.hts (lw_V q832 q833 q834 q83 q835) rfl rfl rfl (by decide +kernel) ⟨Nat.le_of_ble_eq_true rfl, Nat.le_of_ble_eq_true rfl⟩) rfl ⟨hl.1, Nat.le_of_ble_eq_true rfl, Nat.le_of_ble_eq_true rfl, Nat.le_of_ble_eq_true rfl⟩ rfl dX0_keep_54 (fun μ14 H locs hf h => ?_)
        refine lv_aload_n X.hx X.hb dX0_keep_57 rfl (lv_at hl 0 rfl) ?_
        refine r_getP X h (ci := 0) (k := 20) (C := RX0) (T := TX0) (N := 36) rfl in_X0 (by decide) q162 rfl dX0_keep_58 hf (fun i15 hf => ?_)
        refine lv_iconst (v := 0) X.hx X.hb dX0_keep_61 (by decide) ?_
        refine lv_aload_n X.hx X.hb dX0_keep_62 rfl (lv_at hl 0 rfl) ?_
        refine r_getP X h (ci := 0) (k := 21) (C := RX0) (T := TX0) (N := 36) rfl in_X0 (by decide) q163 rfl dX0_keep_63 hf (fun i16 hf => ?_)
        refine lv_iload_n X.hx X.hb dX0_keep_66 rfl (lv_at hl 1 rfl) ?_
        refine r_aald X h (t := 6) rfl rfl dX0_keep_67 hf (fun o17 hf => ?_)
        refine r_nn hf (fun i18 hf => ?_)
        refine r_getNP X h (ci := 9) (k := 1) (C := RX9) (T := TX9) (N := 4) rfl in_X9 (by decide) 11 rfl rfl dX0_keep_68 hf (fun i19 hf => ?_)
        refine lv_iconst (v := 0) X.hx X.hb dX0_keep_71 (by decide) ?_
        refine lv_sipush (v := 540) X.hx X.hb dX0_keep_72 (by decide) ?_
        refine r_copy X h hl.1 q417 (Nat.le_of_ble_eq_true rfl) (Nat.le_trans (m := 26) (Nat.le_of_ble_eq_true rfl) (Nat.le_of_ble_eq_true rfl)) dX0_keep_75 hf (fun μ20 H locs hf h => ?_)
        refine lv_aload_n X.hx X.hb dX0_keep_78 rfl (lv_at hl 0 rfl) ?_
        refine r_getP X h (ci := 0) (k := 21) (C := RX0) (T := TX0) (N := 36) rfl in_X0 (by decide) q163 rfl dX0_keep_79 hf (fun i21 hf => ?_)
        refine lv_iload_n X.hx X.hb dX0_keep_82 rfl (lv_at hl 1 rfl) ?_
        refine r_aald X h (t := 6) rfl rfl dX0_keep_83 hf (fun o22 hf => ?_)
        refine r_nn hf (fun i23 hf => ?_)
        refine lv_aload_n X.hx X.hb dX0_keep_84 rfl (lv_at hl 0 rfl) ?_
        refine r_getI X h (ci := 0) (k := 19) (C := RX0) (T := TX0) (N := 36) rfl in_X0 (by decide) q161 rfl dX0_keep_85 hf (fun x24 hf => ?_)
        refine r_putN X h (ci := 9) (k := 2) (C := RX9) (T := TX9) (N := 4) (ty0 := tyX9) (ty := .int) (v := .int x24) rfl in_X9 tyX9_ok nmX9 (by decide) 12 rfl rfl rfl (by decide +kernel) rfl rfl (fun j hj => by cases hj) dX0_keep_88 hf (fun μ25 H locs hf h => ?_)
        refine lv_aload_n X.hx X.hb dX0_keep_91 rfl (lv_at hl 0 rfl) ?_
        refine r_getP X h (ci := 0) (k := 21) (C := RX0) (T := TX0) (N := 36) rfl in_X0 (by decide) q163 rfl dX0_keep_92 hf (fun i26 hf => ?_)
        refine lv_iload_n X.hx X.hb dX0_keep_95 rfl (lv_at hl 1 rfl) ?_
        refine r_aald X h (t := 6) rfl rfl dX0_keep_96 hf (fun o27 hf => ?_)
        refine r_nn hf (fun i28 hf => ?_)
        refine lv_aload_n X.hx X.hb dX0_keep_97 rfl (lv_at hl 0 rfl) ?_
        refine r_getI X h (ci := 0) (k := 8) (C := RX0) (T := TX0) (N := 36) rfl in_X0 (by decide) q150 rfl dX0_keep_98 hf (fun x29 hf => ?_)
        refine r_putN X h (ci := 9) (k := 3) (C := RX9) (T := TX9) (N := 4) (ty0 := tyX9) (ty := .int) (v := .int x29) rfl in_X9 tyX9_ok nmX9 (by decide) 13 rfl rfl rfl (by decide +kernel) rfl rfl (fun j hj => by cases hj) dX0_keep_101 hf (fun μ30 H locs hf h => ?_)
        refine lv_aload_n X.hx X.hb dX0_keep_104 rfl (lv_at hl 0 rfl) ?_
        refine r_getI X h (ci := 0) (k := 19) (C := RX0) (T := TX0) (N := 36) rfl in_X0 (by decide) q161 rfl dX0_keep_105 hf (fun x31 hf => ?_)
        exact r_ri1 X h hag hr hlk (Nat.le_of_ble_eq_true rfl) (Nat.le_of_ble_eq_true rfl) dX0_keep_108 hf
      clear ej7
      refine r_ifnn (tgt := 41) X.hx X.hb dX0_keep_25 (by decide) hf (fun hf => ?_) (fun hf => ?_)
      · refine W.widen (k := 4) (n := 554) (Nat.le_of_ble_eq_true rfl) (Nat.le_of_ble_eq_true rfl) ?_
        exact hj7 _ _ _ _ _ hag hf h (lv_sub hl [0, 1] rfl)
      · refine lv_aload_n X.hx X.hb dX0_keep_28 rfl (lv_at hl 0 rfl) ?_
        refine r_getP X h (ci := 0) (k := 21) (C := RX0) (T := TX0) (N := 36) rfl in_X0 (by decide) q163 rfl dX0_keep_29 hf (fun i32 hf => ?_)
        refine lv_iload_n X.hx X.hb dX0_keep_32 rfl (lv_at hl 1 rfl) ?_
        obtain ⟨⟨ek0, hek0⟩, hf⟩ := glv_some hf
        have hlt0 := (h.1 _ _ hek0).1
        clear hek0 ek0
        obtain ⟨⟨ek1, hek1⟩, hf⟩ := glv_some hf
        have hlt1 := (h.1 _ _ hek1).1
        clear hek1 ek1
        have hle := h.2.2.2
        refine r_newO X h (C := RX9) (T := TX9) (N := 4) (ty := tyX9) rfl in_X9 tyX9_ok q135 q810 q104 (fun j hj => by rcases (show j = 0 ∨ j = 1 ∨ j = 2 ∨ j = 3 by omega) with rfl | rfl | rfl | rfl <;> rfl) (by intro v hv j; simp only [List.mem_cons, List.not_mem_nil, or_false] at hv; rcases hv with rfl | rfl | rfl | rfl <;> exact fun h9 => by cases h9) (Nat.le_of_ble_eq_true rfl) (Nat.le_of_ble_eq_true rfl) dX0_keep_33 hf (fun ad33 i35 μ34 H locs hf hag1 h => ?_)
        replace hl : lv_has ls 2 [(0, .ref (ad33 b0)), (1, .int a1)] := by rw [hag1 b0 hlt0]; exact hl
        replace hag : ∀ i, i < μ0.1 → ad33 i = ad i := fun i hi => (hag1 i (Nat.lt_of_lt_of_le hi hle)).trans (hag i hi)
        refine W.eq (g2 := F0 m 36 ls [.ref (ad33 i35), .int a1, .ref (ad33 i32)]) (by rw [hag1 i32 hlt1]) ?_
        clear hag1 hle hlt0 hlt1
        refine lv_dup X.hx X.hb dX0_keep_36 rfl ?_
        obtain ⟨⟨ek0, hek0⟩, hf⟩ := glv_some hf
        have hlt0 := (h.1 _ _ hek0).1
        clear hek0 ek0
        obtain ⟨⟨ek1, hek1⟩, hf⟩ := glv_some hf
        have hlt1 := (h.1 _ _ hek1).1
        clear hek1 ek1
        obtain ⟨⟨ek2, hek2⟩, hf⟩ := glv_some hf
        have hlt2 := (h.1 _ _ hek2).1
        clear hek2 ek2
        have hle := h.2.2.2
        refine r_cX1 X h (rest := [.ref (ad33 i35), .int a1, .ref (ad33 i32)]) (mc := 3) (ms := 550) hf (fun res hres => ⟨_, g_runIN (i := i35) (As := []) X h (wX9_init l Γ ad33 _ i35 res hres _) (⟨va_cnB 0 X.hts (lw_meth q813) rfl rfl rfl (X.2.1.2.1 1 _ rfl) (X.hts _ q104) (by decide +kernel) ⟨Nat.le_of_ble_eq_true rfl, Nat.le_of_ble_eq_true rfl⟩, rfl, X.hts _ q812⟩) rfl ⟨hl.1, Nat.le_of_ble_eq_true rfl, Nat.le_of_ble_eq_true rfl, Nat.le_of_ble_eq_true rfl⟩ rfl dX0_keep_37⟩) (fun ad37 μ36 H locs hf hag1 h => ?_)
        replace hl : lv_has ls 2 [(0, .ref (ad37 b0)), (1, .int a1)] := by rw [hag1 b0 hlt0]; exact hl
        replace hag : ∀ i, i < μ0.1 → ad37 i = ad i := fun i hi => (hag1 i (Nat.lt_of_lt_of_le hi hle)).trans (hag i hi)
        refine W.eq (g2 := F0 m 40 ls [.ref (ad37 i35), .int a1, .ref (ad37 i32)]) (by rw [hag1 i32 hlt1, hag1 i35 hlt2]) ?_
        clear hag1 hle hlt0 hlt1 hlt2
        obtain ⟨⟨fs0, hv⟩, hf⟩ := gis_some hf
        refine r_astO X h (t := 6) (E := "SandPiano$Kept") (T := TX9) rfl hv rfl (Or.inl rfl) dX0_keep_40 hf (fun μ38 H locs hf h => ?_)
        exact hj7 _ _ _ _ _ hag hf h (lv_sub hl [0, 1] rfl)
    · replace hf := gif_t hf hc
      clear hc
      refine lv_bipush (v := (-4)) X.hx X.hb dX0_keep_16 (by decide) ?_
      exact r_ri1 X h hag hr hlk (Nat.le_of_ble_eq_true rfl) (Nat.le_of_ble_eq_true rfl) dX0_keep_18 hf
  · replace hf := gif_t hf hc
    clear hc
    refine lv_iconst (v := (-1)) X.hx X.hb dX0_keep_7 (by decide) ?_
    exact r_ri1 X h hag hr hlk (Nat.le_of_ble_eq_true rfl) (Nat.le_of_ble_eq_true rfl) dX0_keep_8 hf
/-! X0_key -/
def fX0_key (μ0 : gM) (b0 : Nat) (a1 : Int32) (a2 : Int32) : gR := gis μ0 b0 0 <| cI (fX0_isKey μ0 b0 a1) fun x1 μ2 => if x1 = 0 then (some (some (.int (-1)), μ2)) else (cI (fX0_isIn μ2 a2 0 4) fun x3 μ4 => if x3 = 0 then (some (some (.int (-1)), μ4)) else (gis μ4 b0 0 <| cI (fX0_keyTells μ4 b0 a1 a2) fun x5 μ6 => gis μ6 b0 0 <| cI (fX0_ask μ6 b0 x5 1) fun x7 μ8 => some (some (.int x7), μ8)))
set_option maxHeartbeats 4000000 in
theorem wX0_key (l : Launch) (Γ : gG) (ad : Nat → Nat) (μ0 : gM) (b0 : Nat) (a1 : Int32) (a2 : Int32) (r : Option Value × gM) (hf : fX0_key μ0 b0 a1 a2 = some r) : gMt0 l Γ yX0_key (ws_ yX0_key cX0_key 3 (some .int)) ({ frames := 4, cells := 0, slots := 0, locals := 84 } : Room) 0 0 ad μ0 [.ref (ad b0), .int a1, .int a2] r := by
  intro sz
  refine g_start (maxL := 3) (ret := (some .int)) (by decide) rfl g_all (Nat.le_of_ble_eq_true rfl) ?_
  intro p e s m below meth c ls hr hlk hnm X h hl
  generalize gA ad μ0 sz = A at X h ⊢
  generalize ([.ref (ad b0), .int a1, .int a2] : List Value).toArray = args at X ⊢
  have X : gX p m c cX0_key 3 s args "SandPiano" Γ A := X
  have hl : lv_has ls 3 [(0, .ref (ad b0)), (1, .int a1), (2, .int a2)] := hl
  show W p l e ({ frames := 4, cells := 0, slots := 0, locals := 84 } : Room) s m args below meth c s.heap [] 0 0 (MQ below (gQ0 Γ ad μ0.1 r A) args s 0 0 A) (F0 m 0 ls [])
  unfold fX0_key at hf
  refine lv_aload_n X.hx X.hb dX0_key_0 rfl (lv_at hl 0 rfl) ?_
  refine lv_iload_n X.hx X.hb dX0_key_1 rfl (lv_at hl 1 rfl) ?_
  refine r_cVI (As := [.int a1]) (rest := []) (C := RX0) (T := TX0) (N := 36) X h hf (fun res hres => wX0_isKey l Γ ad _ b0 a1 res hres) rfl (cwV 1 X.hts (lw_V q549 q551 qs9 q82 q552) rfl rfl rfl (by decide +kernel) ⟨Nat.le_of_ble_eq_true rfl, Nat.le_of_ble_eq_true rfl⟩) rfl ⟨hl.1, Nat.le_of_ble_eq_true rfl, Nat.le_of_ble_eq_true rfl, Nat.le_of_ble_eq_true rfl⟩ rfl dX0_key_2 (fun x1 μ2 H locs hf h => ?_)
  refine lv_if_eq (tgt := 31) X.hx X.hb dX0_key_5 (by decide) (fun hc => ?_) (fun hc => ?_)
  · replace hf := gif_t hf hc
    clear hc
    refine lv_iconst (v := (-1)) X.hx X.hb dX0_key_31 (by decide) ?_
    exact r_ri X h hr hlk (Nat.le_of_ble_eq_true rfl) (Nat.le_of_ble_eq_true rfl) dX0_key_32 hf
  · replace hf := gif_f hf hc
    clear hc
    refine lv_iload_n X.hx X.hb dX0_key_8 rfl (lv_at hl 2 rfl) ?_
    refine lv_iconst (v := 0) X.hx X.hb dX0_key_9 (by decide) ?_
    refine lv_iconst (v := 4) X.hx X.hb dX0_key_10 (by decide) ?_
    refine r_cSI (As := [.int a2, .int 0, .int 4]) (rest := []) X h hf (fun res hres => wX0_isIn l Γ ad _ a2 0 4 res hres) (va_cwS 3 X.hts (lw_S q344 q345 q82 q346) rfl rfl rfl (by decide +kernel) ⟨Nat.le_of_ble_eq_true rfl, Nat.le_of_ble_eq_true rfl⟩) rfl ⟨hl.1, Nat.le_of_ble_eq_true rfl, Nat.le_of_ble_eq_true rfl, Nat.le_of_ble_eq_true rfl⟩ rfl dX0_key_11 (fun x3 μ4 H locs hf h => ?_)
    refine lv_if_eq (tgt := 31) X.hx X.hb dX0_key_14 (by decide) (fun hc => ?_) (fun hc => ?_)
    · replace hf := gif_t hf hc
      clear hc
      refine lv_iconst (v := (-1)) X.hx X.hb dX0_key_31 (by decide) ?_
      exact r_ri X h hr hlk (Nat.le_of_ble_eq_true rfl) (Nat.le_of_ble_eq_true rfl) dX0_key_32 hf
    · replace hf := gif_f hf hc
      clear hc
      refine lv_aload_n X.hx X.hb dX0_key_17 rfl (lv_at hl 0 rfl) ?_
      refine lv_aload_n X.hx X.hb dX0_key_18 rfl (lv_at hl 0 rfl) ?_
      refine lv_iload_n X.hx X.hb dX0_key_19 rfl (lv_at hl 1 rfl) ?_
      refine lv_iload_n X.hx X.hb dX0_key_20 rfl (lv_at hl 2 rfl) ?_
      refine r_cVI (As := [.int a1, .int a2]) (rest := [.ref (ad b0)]) (C := RX0) (T := TX0) (N := 36) X h hf (fun res hres => wX0_keyTells l Γ ad _ b0 a1 a2 res hres) rfl (cwV 2 X.hts (lw_V q553 q555 qs10 q82 q556) rfl rfl rfl (by decide +kernel) ⟨Nat.le_of_ble_eq_true rfl, Nat.le_of_ble_eq_true rfl⟩) rfl ⟨hl.1, Nat.le_of_ble_eq_true rfl, Nat.le_of_ble_eq_true rfl, Nat.le_of_ble_eq_true rfl⟩ rfl dX0_key_21 (fun x5 μ6 H locs hf h => ?_)
      refine lv_iconst (v := 1) X.hx X.hb dX0_key_24 (by decide) ?_
      refine r_cVI (As := [.int x5, .int 1]) (rest := []) (C := RX0) (T := TX0) (N := 36) X h hf (fun res hres => wX0_ask l Γ ad _ b0 x5 1 res hres) rfl (cwV 2 X.hts (lw_V q403 q405 qs3 q82 q406) rfl rfl rfl (by decide +kernel) ⟨Nat.le_of_ble_eq_true rfl, Nat.le_of_ble_eq_true rfl⟩) rfl ⟨hl.1, Nat.le_of_ble_eq_true rfl, Nat.le_of_ble_eq_true rfl, Nat.le_of_ble_eq_true rfl⟩ rfl dX0_key_25 (fun x7 μ8 H locs hf h => ?_)
      refine lv_goto (tgt := 32) X.hx X.hb dX0_key_28 (by decide) ?_
      exact r_ri X h hr hlk (Nat.le_of_ble_eq_true rfl) (Nat.le_of_ble_eq_true rfl) dX0_key_32 hf
/-! X0_tideIn -/
def fX0_tideIn_L5 (b0 : Nat) (b1 : Nat) (a2 : Int32) (kx47 : Int32 → gM → gR) : Nat → Int32 → Int32 → gM → gR
  | 0, _, _, _ => none
  | n4 + 1, x1, x2, μ3 => gI (gfld μ3 b0 0 7) fun x5 => if x5 ≤ x2 then (kx47 x1 μ3) else (if a2 ≤ x2 then (kx47 x1 μ3) else (gP (gfld μ3 b1 1 0) fun i6 => gaI μ3 0 i6 x2 fun x7 => gsI μ3 0 i6 x2 (x7 + (a2 - x2)) fun μ8 => gnm ((x1 + (a2 - x2))) fun x9 => gnm (x2 + 1) fun x10 => fX0_tideIn_L5 b0 b1 a2 kx47 n4 x9 x10 μ8))
set_option maxHeartbeats 4000000 in
theorem wX0_tideIn_L5 {p : Program} {e : Env} {s : State} {m : MethodId} {args : Array Value} {below : List Frame} {meth : Method} {c : Code} {Γ : gG} {A : Nat → Prop} {nz : Nat} {ad : Nat → Nat} {r : Option Value × gM} (l : Launch) (b0 : Nat) (b1 : Nat) (a2 : Int32) (kx47 : Int32 → gM → gR) (X : gX p m c cX0_tideIn 5 s args "SandPiano" Γ A) (hr : meth.sig.returnType = (some .int)) (hlk : meth.locks = false) (hk47 : ∀ (x11 : Int32) (μ : gM) (H : Heap) (locs : List Loc) (ls : Array Slot), kx47 x11 μ = some r → gWd Γ A nz ad μ s.heap H locs → lv_has ls 5 [(1, .ref (ad b1)), (3, .int x11)] → W p l e ({ frames := 0, cells := 0, slots := 0, locals := 0 } : Room) s m args below meth c H locs 0 0 (MQ below (gQ0 Γ ad nz r A) args s 0 0 A) (F0 m 47 ls [])) : ∀ (n4 : Nat) (x1 : Int32) (x2 : Int32) (μ3 : gM) (H : Heap) (locs : List Loc) (ls : Array Slot), fX0_tideIn_L5 b0 b1 a2 kx47 n4 x1 x2 μ3 = some r → gWd Γ A nz ad μ3 s.heap H locs → lv_has ls 5 [(0, .ref (ad b0)), (1, .ref (ad b1)), (2, .int a2), (3, .int x1), (4, .int x2)] → W p l e ({ frames := 0, cells := 0, slots := 0, locals := 0 } : Room) s m args below meth c H locs 0 0 (MQ below (gQ0 Γ ad nz r A) args s 0 0 A) (F0 m 5 ls []) := by
  intro n4
  induction n4 with
  | zero =>
    intro x1 x2 μ3 H locs ls hf h hl
    have hf : (none : gR) = some r := hf
    cases hf
  | succ n4 ih =>
    intro x1 x2 μ3 H locs ls hf h hl
    rw [fX0_tideIn_L5] at hf
    refine lv_iload X.hx X.hb dX0_tideIn_5 (lv_at hl 4 rfl) ?_
    refine lv_aload_n X.hx X.hb dX0_tideIn_7 rfl (lv_at hl 0 rfl) ?_
    refine r_getI X h (ci := 0) (k := 7) (C := RX0) (T := TX0) (N := 36) rfl in_X0 (by decide) q149 rfl dX0_tideIn_8 hf (fun x5 hf => ?_)
    refine lv_icmp_ge (tgt := 47) X.hx X.hb dX0_tideIn_11 (by decide) (fun hc => ?_) (fun hc => ?_)
    · replace hf := gif_t hf hc
      clear hc
      exact hk47 _ _ _ _ _ hf h (lv_sub hl [1, 3] rfl)
    · replace hf := gif_f hf hc
      clear hc
      refine lv_iload X.hx X.hb dX0_tideIn_14 (lv_at hl 4 rfl) ?_
      refine lv_iload_n X.hx X.hb dX0_tideIn_16 rfl (lv_at hl 2 rfl) ?_
      refine lv_icmp_ge (tgt := 47) X.hx X.hb dX0_tideIn_17 (by decide) (fun hc => ?_) (fun hc => ?_)
      · replace hf := gif_t hf hc
        clear hc
        exact hk47 _ _ _ _ _ hf h (lv_sub hl [1, 3] rfl)
      · replace hf := gif_f hf hc
        clear hc
        refine lv_aload_n X.hx X.hb dX0_tideIn_20 rfl (lv_at hl 1 rfl) ?_
        refine r_getNP X h (ci := 1) (k := 0) (C := RX1) (T := TX1) (N := 1) rfl in_X1 (by decide) 8 rfl rfl dX0_tideIn_21 hf (fun i6 hf => ?_)
        refine lv_iload X.hx X.hb dX0_tideIn_24 (lv_at hl 4 rfl) ?_
        refine lv_dup2_11 X.hx X.hb dX0_tideIn_26 rfl rfl ?_
        refine r_iald X h dX0_tideIn_27 hf (fun x7 hf => ?_)
        refine lv_iload_n X.hx X.hb dX0_tideIn_28 rfl (lv_at hl 2 rfl) ?_
        refine lv_iload X.hx X.hb dX0_tideIn_29 (lv_at hl 4 rfl) ?_
        refine lv_isub X.hx X.hb dX0_tideIn_31 ?_
        refine lv_iadd X.hx X.hb dX0_tideIn_32 ?_
        refine r_iast X h dX0_tideIn_33 hf (fun μ8 H locs hf h => ?_)
        refine lv_iload_n X.hx X.hb dX0_tideIn_34 rfl (lv_at hl 3 rfl) ?_
        refine lv_iload_n X.hx X.hb dX0_tideIn_35 rfl (lv_at hl 2 rfl) ?_
        refine lv_iload X.hx X.hb dX0_tideIn_36 (lv_at hl 4 rfl) ?_
        refine lv_isub X.hx X.hb dX0_tideIn_38 ?_
        refine lv_iadd X.hx X.hb dX0_tideIn_39 ?_
        refine r_nmI hf (fun x9 hf => ?_)
        refine lv_istore_n (lv' := [(3, .int x9), (0, .ref (ad b0)), (1, .ref (ad b1)), (2, .int a2), (4, .int x2)]) X.hx X.hb dX0_tideIn_40 rfl hl (by decide) rfl (fun ls hl => ?_)
        refine r_nmk hf (fun x10 ex hf => ?_)
        refine lv_iinc (v := x10) (lv' := [(4, .int x10), (3, .int x9), (0, .ref (ad b0)), (1, .ref (ad b1)), (2, .int a2)]) X.hx X.hb dX0_tideIn_41 hl (k := 4) rfl (by rw [ex]; rfl) (by decide) rfl (fun ls hl => ?_)
        clear ex
        refine lv_goto (tgt := 5) X.hx X.hb dX0_tideIn_44 (by decide) ?_
        exact ih _ _ _ _ _ _ hf h (lv_sub hl [2, 3, 4, 1, 0] rfl)
def fX0_tideIn (μ0 : gM) (b0 : Nat) (b1 : Nat) (a2 : Int32) : gR := fX0_tideIn_L5 b0 b1 a2 (fun (x12 : Int32) (μ13 : gM) => gP (gfld μ13 b1 1 0) fun i14 => gaI μ13 0 i14 7 fun x15 => gsI μ13 0 i14 7 (x15 + x12) fun μ16 => some (some (.int x12), μ16)) 10000 0 0 μ0
set_option maxHeartbeats 4000000 in
theorem wX0_tideIn (l : Launch) (Γ : gG) (ad : Nat → Nat) (μ0 : gM) (b0 : Nat) (b1 : Nat) (a2 : Int32) (r : Option Value × gM) (hf : fX0_tideIn μ0 b0 b1 a2 = some r) : gMt0 l Γ yX0_tideIn (ws_ yX0_tideIn cX0_tideIn 5 (some .int)) ({ frames := 0, cells := 0, slots := 0, locals := 0 } : Room) 0 0 ad μ0 [.ref (ad b0), .ref (ad b1), .int a2] r := by
  intro sz
  refine g_start (maxL := 5) (ret := (some .int)) (by decide) rfl g_all (Nat.le_of_ble_eq_true rfl) ?_
  intro p e s m below meth c ls hr hlk hnm X h hl
  generalize gA ad μ0 sz = A at X h ⊢
  generalize ([.ref (ad b0), .ref (ad b1), .int a2] : List Value).toArray = args at X ⊢
  have X : gX p m c cX0_tideIn 5 s args "SandPiano" Γ A := X
  have hl : lv_has ls 5 [(0, .ref (ad b0)), (1, .ref (ad b1)), (2, .int a2)] := hl
  show W p l e ({ frames := 0, cells := 0, slots := 0, locals := 0 } : Room) s m args below meth c s.heap [] 0 0 (MQ below (gQ0 Γ ad μ0.1 r A) args s 0 0 A) (F0 m 0 ls [])
  unfold fX0_tideIn at hf
  refine lv_iconst (v := 0) X.hx X.hb dX0_tideIn_0 (by decide) ?_
  refine lv_istore_n (lv' := [(3, .int 0), (0, .ref (ad b0)), (1, .ref (ad b1)), (2, .int a2)]) X.hx X.hb dX0_tideIn_1 rfl hl (by decide) rfl (fun ls hl => ?_)
  refine lv_iconst (v := 0) X.hx X.hb dX0_tideIn_2 (by decide) ?_
  refine lv_istore (lv' := [(4, .int 0), (3, .int 0), (0, .ref (ad b0)), (1, .ref (ad b1)), (2, .int a2)]) X.hx X.hb dX0_tideIn_3 hl (by decide) rfl (fun ls hl => ?_)
  refine wX0_tideIn_L5 l b0 b1 a2 _ X hr hlk (fun x12 μ13 H locs ls hf h hl => ?_) 10000 _ _ _ _ _ _ hf h (lv_sub hl [2, 3, 4, 1, 0] rfl)
  refine lv_aload_n X.hx X.hb dX0_tideIn_47 rfl (lv_at hl 0 rfl) ?_
  refine r_getNP X h (ci := 1) (k := 0) (C := RX1) (T := TX1) (N := 1) rfl in_X1 (by decide) 8 rfl rfl dX0_tideIn_48 hf (fun i14 hf => ?_)
  refine lv_bipush (v := 7) X.hx X.hb dX0_tideIn_51 (by decide) ?_
  refine lv_dup2_11 X.hx X.hb dX0_tideIn_53 rfl rfl ?_
  refine r_iald X h dX0_tideIn_54 hf (fun x15 hf => ?_)
  refine lv_iload_n X.hx X.hb dX0_tideIn_55 rfl (lv_at hl 1 rfl) ?_
  refine lv_iadd X.hx X.hb dX0_tideIn_56 ?_
  refine r_iast X h dX0_tideIn_57 hf (fun μ16 H locs hf h => ?_)
  refine lv_iload_n X.hx X.hb dX0_tideIn_58 rfl (lv_at hl 1 rfl) ?_
  exact r_ri X h hr hlk (Nat.le_of_ble_eq_true rfl) (Nat.le_of_ble_eq_true rfl) dX0_tideIn_59 hf
/-! X0_lasts -/
def fX0_lasts_L45 (b0 : Nat) (a1 : Int32) (a2 : Int32) : Nat → Int32 → Int32 → gM → gR
  | 0, _, _, _ => none
  | n13 + 1, x10, x11, μ12 => if x11 = 0 then (some (some (.int x10), μ12)) else (if 20 ≤ x10 then (some (some (.int x10), μ12)) else (gP (gfld μ12 b0 0 23) fun i14 => gis μ12 b0 0 <| cI (fX0_tideIn μ12 b0 i14 a2) fun x15 μ16 => gP (gfld μ16 b0 0 22) fun i17 => gP (gfld μ16 b0 0 23) fun i18 => gis μ16 i17 1 <| cV (fX1_take μ16 i17 i18) fun μ19 => gP (gfld μ19 b0 0 22) fun i20 => gP (gfld μ19 b0 0 5) fun i21 => gaQ μ19 3 i21 a1 fun o22 => gnn o22 fun i23 => gis μ19 b0 0 <| cI (fX0_playOn μ19 b0 i20 i23) fun x24 μ25 => gP (gfld μ25 b0 0 5) fun i26 => gaQ μ25 3 i26 a1 fun o27 => gnn o27 fun i28 => glen μ25 0 i28 fun x29 => gjn (fun (x30 : Int32) (μ31 : gM) => gjn (fun (x33 : Int32) (μ34 : gM) => gnm ((x10 + x33)) fun x36 => fX0_lasts_L45 b0 a1 a2 n13 x36 x30 μ34) fun j35 => if x30 = 0 then (j35 0 μ31) else (j35 1 μ31)) fun j32 => if x24 = x29 then (j32 1 μ25) else (j32 0 μ25)))
set_option maxHeartbeats 4000000 in
theorem wX0_lasts_L45 {p : Program} {e : Env} {s : State} {m : MethodId} {args : Array Value} {below : List Frame} {meth : Method} {c : Code} {Γ : gG} {A : Nat → Prop} {nz : Nat} {ad : Nat → Nat} {r : Option Value × gM} (l : Launch) (b0 : Nat) (a1 : Int32) (a2 : Int32) (X : gX p m c cX0_lasts 6 s args "SandPiano" Γ A) (hr : meth.sig.returnType = (some .int)) (hlk : meth.locks = false) : ∀ (n13 : Nat) (x10 : Int32) (x11 : Int32) (μ12 : gM) (H : Heap) (locs : List Loc) (ls : Array Slot), fX0_lasts_L45 b0 a1 a2 n13 x10 x11 μ12 = some r → gWd Γ A nz ad μ12 s.heap H locs → lv_has ls 6 [(0, .ref (ad b0)), (1, .int a1), (2, .int a2), (4, .int x10), (5, .int x11)] → W p l e ({ frames := 5, cells := 0, slots := 0, locals := 112 } : Room) s m args below meth c H locs 0 0 (MQ below (gQ0 Γ ad nz r A) args s 0 0 A) (F0 m 45 ls []) := by
  intro n13
  induction n13 with
  | zero =>
    intro x10 x11 μ12 H locs ls hf h hl
    have hf : (none : gR) = some r := hf
    cases hf
  | succ n13 ih =>
    intro x10 x11 μ12 H locs ls hf h hl
    rw [fX0_lasts_L45] at hf
    refine lv_iload X.hx X.hb dX0_lasts_45 (lv_at hl 4 rfl) ?_
    refine lv_if_eq (tgt := 127) X.hx X.hb dX0_lasts_47 (by decide) (fun hc => ?_) (fun hc => ?_)
    · replace hf := gif_t hf hc
      clear hc
      refine lv_iload X.hx X.hb dX0_lasts_127 (lv_at hl 3 rfl) ?_
      exact r_ri X h hr hlk (Nat.le_of_ble_eq_true rfl) (Nat.le_of_ble_eq_true rfl) dX0_lasts_129 hf
    · replace hf := gif_f hf hc
      clear hc
      refine lv_iload X.hx X.hb dX0_lasts_50 (lv_at hl 3 rfl) ?_
      refine lv_bipush (v := 20) X.hx X.hb dX0_lasts_52 (by decide) ?_
      refine lv_icmp_ge (tgt := 127) X.hx X.hb dX0_lasts_54 (by decide) (fun hc => ?_) (fun hc => ?_)
      · replace hf := gif_t hf hc
        clear hc
        refine lv_iload X.hx X.hb dX0_lasts_127 (lv_at hl 3 rfl) ?_
        exact r_ri X h hr hlk (Nat.le_of_ble_eq_true rfl) (Nat.le_of_ble_eq_true rfl) dX0_lasts_129 hf
      · replace hf := gif_f hf hc
        clear hc
        refine lv_aload_n X.hx X.hb dX0_lasts_57 rfl (lv_at hl 0 rfl) ?_
        refine lv_aload_n X.hx X.hb dX0_lasts_58 rfl (lv_at hl 0 rfl) ?_
        refine r_getP X h (ci := 0) (k := 23) (C := RX0) (T := TX0) (N := 36) rfl in_X0 (by decide) q165 rfl dX0_lasts_59 hf (fun i14 hf => ?_)
        refine lv_iload_n X.hx X.hb dX0_lasts_62 rfl (lv_at hl 2 rfl) ?_
        refine r_cVI (As := [.ref (ad i14), .int a2]) (rest := []) (C := RX0) (T := TX0) (N := 36) X h hf (fun res hres => wX0_tideIn l Γ ad _ b0 i14 a2 res hres) rfl (cwV 2 X.hts (lw_V q776 q778 qs15 q82 q779) rfl rfl rfl (by decide +kernel) ⟨Nat.le_of_ble_eq_true rfl, Nat.le_of_ble_eq_true rfl⟩) rfl ⟨hl.1, Nat.le_of_ble_eq_true rfl, Nat.le_of_ble_eq_true rfl, Nat.le_of_ble_eq_true rfl⟩ rfl dX0_lasts_63 (fun x15 μ16 H locs hf h => ?_)
        refine lv_pop X.hx X.hb dX0_lasts_66 rfl ?_
        refine lv_aload_n X.hx X.hb dX0_lasts_67 rfl (lv_at hl 0 rfl) ?_
        refine r_getP X h (ci := 0) (k := 22) (C := RX0) (T := TX0) (N := 36) rfl in_X0 (by decide) q164 rfl dX0_lasts_68 hf (fun i17 hf => ?_)
        refine lv_aload_n X.hx X.hb dX0_lasts_71 rfl (lv_at hl 0 rfl) ?_
        refine r_getP X h (ci := 0) (k := 23) (C := RX0) (T := TX0) (N := 36) rfl in_X0 (by decide) q165 rfl dX0_lasts_72 hf (fun i18 hf => ?_)
        refine r_cVV (As := [.ref (ad i18)]) (rest := []) (C := RX1) (T := TX1) (N := 1) X h hf (fun res hres => wX1_take l Γ ad _ i17 i18 res hres) rfl (cwV 1 X.hts (lw_V q832 q833 q834 q83 q835) rfl rfl rfl (by decide +kernel) ⟨Nat.le_of_ble_eq_true rfl, Nat.le_of_ble_eq_true rfl⟩) rfl ⟨hl.1, Nat.le_of_ble_eq_true rfl, Nat.le_of_ble_eq_true rfl, Nat.le_of_ble_eq_true rfl⟩ rfl dX0_lasts_75 (fun μ19 H locs hf h => ?_)
        refine lv_aload_n X.hx X.hb dX0_lasts_78 rfl (lv_at hl 0 rfl) ?_
        refine lv_aload_n X.hx X.hb dX0_lasts_79 rfl (lv_at hl 0 rfl) ?_
        refine r_getP X h (ci := 0) (k := 22) (C := RX0) (T := TX0) (N := 36) rfl in_X0 (by decide) q164 rfl dX0_lasts_80 hf (fun i20 hf => ?_)
        refine lv_aload_n X.hx X.hb dX0_lasts_83 rfl (lv_at hl 0 rfl) ?_
        refine r_getP X h (ci := 0) (k := 5) (C := RX0) (T := TX0) (N := 36) rfl in_X0 (by decide) q146 rfl dX0_lasts_84 hf (fun i21 hf => ?_)
        refine lv_iload_n X.hx X.hb dX0_lasts_87 rfl (lv_at hl 1 rfl) ?_
        refine r_aald X h (t := 3) rfl rfl dX0_lasts_88 hf (fun o22 hf => ?_)
        refine r_nn hf (fun i23 hf => ?_)
        refine r_cVI (As := [.ref (ad i20), .ref (ad i23)]) (rest := []) (C := RX0) (T := TX0) (N := 36) X h hf (fun res hres => wX0_playOn l Γ ad _ b0 i20 i23 res hres) rfl (cwV 2 X.hts (lw_V q849 q851 qs18 q82 q852) rfl rfl rfl (by decide +kernel) ⟨Nat.le_of_ble_eq_true rfl, Nat.le_of_ble_eq_true rfl⟩) rfl ⟨hl.1, Nat.le_of_ble_eq_true rfl, Nat.le_of_ble_eq_true rfl, Nat.le_of_ble_eq_true rfl⟩ rfl dX0_lasts_89 (fun x24 μ25 H locs hf h => ?_)
        refine lv_aload_n X.hx X.hb dX0_lasts_92 rfl (lv_at hl 0 rfl) ?_
        refine r_getP X h (ci := 0) (k := 5) (C := RX0) (T := TX0) (N := 36) rfl in_X0 (by decide) q146 rfl dX0_lasts_93 hf (fun i26 hf => ?_)
        refine lv_iload_n X.hx X.hb dX0_lasts_96 rfl (lv_at hl 1 rfl) ?_
        refine r_aald X h (t := 3) rfl rfl dX0_lasts_97 hf (fun o27 hf => ?_)
        refine r_nn hf (fun i28 hf => ?_)
        refine r_len X h (t := 0) rfl dX0_lasts_98 hf (fun x29 hf => ?_)
        refine r_jn hf (fun j32 ej32 hf => ?_)
        have hj32 : ∀ (x30 : Int32) (μ31 : gM) (H : Heap) (locs : List Loc) (ls : Array Slot), j32 x30 μ31 = some r → gWd Γ A nz ad μ31 s.heap H locs → lv_has ls 6 [(0, .ref (ad b0)), (1, .int a1), (2, .int a2), (4, .int x10)] → W p l e ({ frames := 5, cells := 0, slots := 0, locals := 112 } : Room) s m args below meth c H locs 0 0 (MQ below (gQ0 Γ ad nz r A) args s 0 0 A) (F0 m 107 ls [.int x30]) := by
          intro x30 μ31 H locs ls hf h hl
          rw [ej32] at hf
          refine lv_istore (lv' := [(5, .int x30), (0, .ref (ad b0)), (1, .int a1), (2, .int a2), (4, .int x10)]) X.hx X.hb dX0_lasts_107 hl (by decide) rfl (fun ls hl => ?_)
          refine lv_iload X.hx X.hb dX0_lasts_109 (lv_at hl 4 rfl) ?_
          refine lv_iload X.hx X.hb dX0_lasts_111 (lv_at hl 0 rfl) ?_
          refine r_jn hf (fun j35 ej35 hf => ?_)
          have hj35 : ∀ (x33 : Int32) (μ34 : gM) (H : Heap) (locs : List Loc) (ls : Array Slot), j35 x33 μ34 = some r → gWd Γ A nz ad μ34 s.heap H locs → lv_has ls 6 [(0, .ref (ad b0)), (1, .int a1), (2, .int a2), (5, .int x30)] → W p l e ({ frames := 5, cells := 0, slots := 0, locals := 112 } : Room) s m args below meth c H locs 0 0 (MQ below (gQ0 Γ ad nz r A) args s 0 0 A) (F0 m 121 ls [.int x33, .int x10]) := by
            intro x33 μ34 H locs ls hf h hl
            rw [ej35] at hf
            refine lv_iadd X.hx X.hb dX0_lasts_121 ?_
            refine r_nmI hf (fun x36 hf => ?_)
            refine lv_istore (lv' := [(4, .int x36), (0, .ref (ad b0)), (1, .int a1), (2, .int a2), (5, .int x30)]) X.hx X.hb dX0_lasts_122 hl (by decide) rfl (fun ls hl => ?_)
            refine lv_goto (tgt := 45) X.hx X.hb dX0_lasts_124 (by decide) ?_
            exact ih _ _ _ _ _ _ hf h (lv_sub hl [1, 2, 3, 0, 4] rfl)
          clear ej35
          refine lv_if_eq (tgt := 120) X.hx X.hb dX0_lasts_113 (by decide) (fun hc => ?_) (fun hc => ?_)
          · replace hf := gif_t hf hc
            clear hc
            refine lv_iconst (v := 0) X.hx X.hb dX0_lasts_120 (by decide) ?_
            exact hj35 _ _ _ _ _ hf h (lv_sub hl [1, 2, 3, 0] rfl)
          · replace hf := gif_f hf hc
            clear hc
            refine lv_iconst (v := 1) X.hx X.hb dX0_lasts_116 (by decide) ?_
            refine lv_goto (tgt := 121) X.hx X.hb dX0_lasts_117 (by decide) ?_
            exact hj35 _ _ _ _ _ hf h (lv_sub hl [1, 2, 3, 0] rfl)
        clear ej32
        refine lv_icmp_ne (tgt := 106) X.hx X.hb dX0_lasts_99 (by decide) (fun hc => ?_) (fun hc => ?_)
        · replace hf := gif_f hf hc
          clear hc
          refine lv_iconst (v := 0) X.hx X.hb dX0_lasts_106 (by decide) ?_
          exact hj32 _ _ _ _ _ hf h (lv_sub hl [0, 1, 2, 3] rfl)
        · replace hf := gif_t hf hc
          clear hc
          refine lv_iconst (v := 1) X.hx X.hb dX0_lasts_102 (by decide) ?_
          refine lv_goto (tgt := 107) X.hx X.hb dX0_lasts_103 (by decide) ?_
          exact hj32 _ _ _ _ _ hf h (lv_sub hl [0, 1, 2, 3] rfl)
def fX0_lasts (μ0 : gM) (b0 : Nat) (a1 : Int32) (a2 : Int32) : gR := cI (fX0_isRow μ0 a1) fun x1 μ2 => if x1 = 0 then (some (some (.int (-1)), μ2)) else (cI (fX0_isHeight μ2 a2) fun x3 μ4 => if x3 = 0 then (some (some (.int (-1)), μ4)) else (gis μ4 b0 0 <| cI (fX0_askedPiece μ4 b0 a1) fun x5 μ6 => if 0 ≤ x5 then (gP (gfld μ6 b0 0 23) fun i7 => gP (gfld μ6 b0 0 10) fun i8 => gis μ6 i7 1 <| cV (fX1_take μ6 i7 i8) fun μ9 => fX0_lasts_L45 b0 a1 a2 10000 0 1 μ9) else (some (some (.int x5), μ6))))
set_option maxHeartbeats 4000000 in
theorem wX0_lasts (l : Launch) (Γ : gG) (ad : Nat → Nat) (μ0 : gM) (b0 : Nat) (a1 : Int32) (a2 : Int32) (r : Option Value × gM) (hf : fX0_lasts μ0 b0 a1 a2 = some r) : gMt0 l Γ yX0_lasts (ws_ yX0_lasts cX0_lasts 6 (some .int)) ({ frames := 5, cells := 0, slots := 0, locals := 112 } : Room) 0 0 ad μ0 [.ref (ad b0), .int a1, .int a2] r := by
  intro sz
  refine g_start (maxL := 6) (ret := (some .int)) (by decide) rfl g_all (Nat.le_of_ble_eq_true rfl) ?_
  intro p e s m below meth c ls hr hlk hnm X h hl
  generalize gA ad μ0 sz = A at X h ⊢
  generalize ([.ref (ad b0), .int a1, .int a2] : List Value).toArray = args at X ⊢
  have X : gX p m c cX0_lasts 6 s args "SandPiano" Γ A := X
  have hl : lv_has ls 6 [(0, .ref (ad b0)), (1, .int a1), (2, .int a2)] := hl
  show W p l e ({ frames := 5, cells := 0, slots := 0, locals := 112 } : Room) s m args below meth c s.heap [] 0 0 (MQ below (gQ0 Γ ad μ0.1 r A) args s 0 0 A) (F0 m 0 ls [])
  unfold fX0_lasts at hf
  refine lv_iload_n X.hx X.hb dX0_lasts_0 rfl (lv_at hl 1 rfl) ?_
  refine r_cSI (As := [.int a1]) (rest := []) X h hf (fun res hres => wX0_isRow l Γ ad _ a1 res hres) (va_cwS 1 X.hts (lw_S q341 q342 q82 q343) rfl rfl rfl (by decide +kernel) ⟨Nat.le_of_ble_eq_true rfl, Nat.le_of_ble_eq_true rfl⟩) rfl ⟨hl.1, Nat.le_of_ble_eq_true rfl, Nat.le_of_ble_eq_true rfl, Nat.le_of_ble_eq_true rfl⟩ rfl dX0_lasts_1 (fun x1 μ2 H locs hf h => ?_)
  refine lv_if_eq (tgt := 14) X.hx X.hb dX0_lasts_4 (by decide) (fun hc => ?_) (fun hc => ?_)
  · replace hf := gif_t hf hc
    clear hc
    refine lv_iconst (v := (-1)) X.hx X.hb dX0_lasts_14 (by decide) ?_
    exact r_ri X h hr hlk (Nat.le_of_ble_eq_true rfl) (Nat.le_of_ble_eq_true rfl) dX0_lasts_15 hf
  · replace hf := gif_f hf hc
    clear hc
    refine lv_iload_n X.hx X.hb dX0_lasts_7 rfl (lv_at hl 2 rfl) ?_
    refine r_cSI (As := [.int a2]) (rest := []) X h hf (fun res hres => wX0_isHeight l Γ ad _ a2 res hres) (va_cwS 1 X.hts (lw_S q773 q774 q82 q775) rfl rfl rfl (by decide +kernel) ⟨Nat.le_of_ble_eq_true rfl, Nat.le_of_ble_eq_true rfl⟩) rfl ⟨hl.1, Nat.le_of_ble_eq_true rfl, Nat.le_of_ble_eq_true rfl, Nat.le_of_ble_eq_true rfl⟩ rfl dX0_lasts_8 (fun x3 μ4 H locs hf h => ?_)
    refine lv_if_ne (tgt := 16) X.hx X.hb dX0_lasts_11 (by decide) (fun hc => ?_) (fun hc => ?_)
    · replace hf := gif_f hf hc
      clear hc
      refine lv_aload_n X.hx X.hb dX0_lasts_16 rfl (lv_at hl 0 rfl) ?_
      refine lv_iload_n X.hx X.hb dX0_lasts_17 rfl (lv_at hl 1 rfl) ?_
      refine r_cVI (As := [.int a1]) (rest := []) (C := RX0) (T := TX0) (N := 36) X h hf (fun res hres => wX0_askedPiece l Γ ad _ b0 a1 res hres) rfl (cwV 1 X.hts (lw_V q845 q847 qs17 q82 q848) rfl rfl rfl (by decide +kernel) ⟨Nat.le_of_ble_eq_true rfl, Nat.le_of_ble_eq_true rfl⟩) rfl ⟨hl.1, Nat.le_of_ble_eq_true rfl, Nat.le_of_ble_eq_true rfl, Nat.le_of_ble_eq_true rfl⟩ rfl dX0_lasts_18 (fun x5 μ6 H locs hf h => ?_)
      refine lv_istore_n (lv' := [(3, .int x5), (0, .ref (ad b0)), (1, .int a1), (2, .int a2)]) X.hx X.hb dX0_lasts_21 rfl hl (by decide) rfl (fun ls hl => ?_)
      refine lv_iload_n X.hx X.hb dX0_lasts_22 rfl (lv_at hl 0 rfl) ?_
      refine lv_if_ge (tgt := 28) X.hx X.hb dX0_lasts_23 (by decide) (fun hc => ?_) (fun hc => ?_)
      · replace hf := gif_t hf hc
        clear hc
        refine lv_aload_n X.hx X.hb dX0_lasts_28 rfl (lv_at hl 1 rfl) ?_
        refine r_getP X h (ci := 0) (k := 23) (C := RX0) (T := TX0) (N := 36) rfl in_X0 (by decide) q165 rfl dX0_lasts_29 hf (fun i7 hf => ?_)
        refine lv_aload_n X.hx X.hb dX0_lasts_32 rfl (lv_at hl 1 rfl) ?_
        refine r_getP X h (ci := 0) (k := 10) (C := RX0) (T := TX0) (N := 36) rfl in_X0 (by decide) q152 rfl dX0_lasts_33 hf (fun i8 hf => ?_)
        refine r_cVV (As := [.ref (ad i8)]) (rest := []) (C := RX1) (T := TX1) (N := 1) X h hf (fun res hres => wX1_take l Γ ad _ i7 i8 res hres) rfl (cwV 1 X.hts (lw_V q832 q833 q834 q83 q835) rfl rfl rfl (by decide +kernel) ⟨Nat.le_of_ble_eq_true rfl, Nat.le_of_ble_eq_true rfl⟩) rfl ⟨hl.1, Nat.le_of_ble_eq_true rfl, Nat.le_of_ble_eq_true rfl, Nat.le_of_ble_eq_true rfl⟩ rfl dX0_lasts_36 (fun μ9 H locs hf h => ?_)
        refine lv_iconst (v := 0) X.hx X.hb dX0_lasts_39 (by decide) ?_
        refine lv_istore (lv' := [(4, .int 0), (3, .int x5), (0, .ref (ad b0)), (1, .int a1), (2, .int a2)]) X.hx X.hb dX0_lasts_40 hl (by decide) rfl (fun ls hl => ?_)
        refine lv_iconst (v := 1) X.hx X.hb dX0_lasts_42 (by decide) ?_
        refine lv_istore (lv' := [(5, .int 1), (4, .int 0), (3, .int x5), (0, .ref (ad b0)), (1, .int a1), (2, .int a2)]) X.hx X.hb dX0_lasts_43 hl (by decide) rfl (fun ls hl => ?_)
        refine wX0_lasts_L45 l b0 a1 a2 X hr hlk 10000 _ _ _ _ _ _ hf h (lv_sub hl [3, 4, 5, 1, 0] rfl)
      · replace hf := gif_f hf hc
        clear hc
        refine lv_iload_n X.hx X.hb dX0_lasts_26 rfl (lv_at hl 0 rfl) ?_
        exact r_ri X h hr hlk (Nat.le_of_ble_eq_true rfl) (Nat.le_of_ble_eq_true rfl) dX0_lasts_27 hf
    · replace hf := gif_t hf hc
      clear hc
      refine lv_iconst (v := (-1)) X.hx X.hb dX0_lasts_14 (by decide) ?_
      exact r_ri X h hr hlk (Nat.le_of_ble_eq_true rfl) (Nat.le_of_ble_eq_true rfl) dX0_lasts_15 hf
