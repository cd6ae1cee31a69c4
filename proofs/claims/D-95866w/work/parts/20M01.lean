set_option maxRecDepth 100000
/-! X2_copyTo -/
def fX2_copyTo_L2 (b0 : Nat) (a1 : Int32) (a2 : Int32) : Nat → Int32 → gM → gR
  | 0, _, _ => none
  | n3 + 1, x1, μ2 => if 9 ≤ x1 then (some (none, μ2)) else (gis μ2 b0 2 <| cI (fX2_v μ2 b0 a1 x1) fun x4 μ5 => gis μ5 b0 2 <| cV (fX2_place μ5 b0 a2 x1 x4) fun μ6 => gnm (x1 + 1) fun x7 => fX2_copyTo_L2 b0 a1 a2 n3 x7 μ6)
set_option maxHeartbeats 4000000 in
theorem wX2_copyTo_L2 {p : Program} {e : Env} {s : State} {m : MethodId} {args : Array Value} {below : List Frame} {meth : Method} {c : Code} {Γ : gG} {A : Nat → Prop} {nz : Nat} {ad : Nat → Nat} {r : Option Value × gM} (l : Launch) (b0 : Nat) (a1 : Int32) (a2 : Int32) (X : gX p m c cX2_copyTo 4 s args "SandPianoModel" Γ A) (hr : meth.sig.returnType = none) (hlk : meth.locks = false) : ∀ (n3 : Nat) (x1 : Int32) (μ2 : gM) (H : Heap) (locs : List Loc) (ls : Array Slot), fX2_copyTo_L2 b0 a1 a2 n3 x1 μ2 = some r → gWd Γ A nz ad μ2 s.heap H locs → lv_has ls 4 [(0, .ref (ad b0)), (1, .int a1), (2, .int a2), (3, .int x1)] → W p l e ({ frames := 1, cells := 0, slots := 0, locals := 23 } : Room) s m args below meth c H locs 0 0 (MQ below (gQ0 Γ ad nz r A) args s 0 0 A) (F0 m 2 ls []) := by
  intro n3
  induction n3 with
  | zero =>
    intro x1 μ2 H locs ls hf h hl
    have hf : (none : gR) = some r := hf
    cases hf
  | succ n3 ih =>
    intro x1 μ2 H locs ls hf h hl
    rw [fX2_copyTo_L2] at hf
    refine lv_iload_n X.hx X.hb dX2_copyTo_2 rfl (lv_at hl 3 rfl) ?_
    refine lv_bipush (v := 9) X.hx X.hb dX2_copyTo_3 (by decide) ?_
    refine lv_icmp_ge (tgt := 26) X.hx X.hb dX2_copyTo_5 (by decide) (fun hc => ?_) (fun hc => ?_)
    · replace hf := gif_t hf hc
      clear hc
      exact r_rv X h hr hlk (Nat.le_of_ble_eq_true rfl) (Nat.le_of_ble_eq_true rfl) dX2_copyTo_26 hf
    · replace hf := gif_f hf hc
      clear hc
      refine lv_aload_n X.hx X.hb dX2_copyTo_8 rfl (lv_at hl 0 rfl) ?_
      refine lv_iload_n X.hx X.hb dX2_copyTo_9 rfl (lv_at hl 2 rfl) ?_
      refine lv_iload_n X.hx X.hb dX2_copyTo_10 rfl (lv_at hl 3 rfl) ?_
      refine lv_aload_n X.hx X.hb dX2_copyTo_11 rfl (lv_at hl 0 rfl) ?_
      refine lv_iload_n X.hx X.hb dX2_copyTo_12 rfl (lv_at hl 1 rfl) ?_
      refine lv_iload_n X.hx X.hb dX2_copyTo_13 rfl (lv_at hl 3 rfl) ?_
      refine r_cVI (As := [.int a1, .int x1]) (rest := [.int x1, .int a2, .ref (ad b0)]) (C := RX2) (T := TX2) (N := 36) X h hf (fun res hres => wX2_v l Γ ad _ b0 a1 x1 res hres) rfl (cwV 2 X.hts (lw_V q1289 q1291 qs49 q84 q1292) rfl rfl rfl (by decide +kernel) ⟨Nat.le_of_ble_eq_true rfl, Nat.le_of_ble_eq_true rfl⟩) rfl ⟨hl.1, Nat.le_of_ble_eq_true rfl, Nat.le_of_ble_eq_true rfl, Nat.le_of_ble_eq_true rfl⟩ rfl dX2_copyTo_14 (fun x4 μ5 H locs hf h => ?_)
      refine r_cVV (As := [.int a2, .int x1, .int x4]) (rest := []) (C := RX2) (T := TX2) (N := 36) X h hf (fun res hres => wX2_place l Γ ad _ b0 a2 x1 x4 res hres) rfl (cwV 3 X.hts (lw_V q1273 q1275 qs46 q84 q1276) rfl rfl rfl (by decide +kernel) ⟨Nat.le_of_ble_eq_true rfl, Nat.le_of_ble_eq_true rfl⟩) rfl ⟨hl.1, Nat.le_of_ble_eq_true rfl, Nat.le_of_ble_eq_true rfl, Nat.le_of_ble_eq_true rfl⟩ rfl dX2_copyTo_17 (fun μ6 H locs hf h => ?_)
      refine r_nmk hf (fun x7 ex hf => ?_)
      refine lv_iinc (v := x7) (lv' := [(3, .int x7), (0, .ref (ad b0)), (1, .int a1), (2, .int a2)]) X.hx X.hb dX2_copyTo_20 hl (k := 3) rfl (by rw [ex]; rfl) (by decide) rfl (fun ls hl => ?_)
      clear ex
      refine lv_goto (tgt := 2) X.hx X.hb dX2_copyTo_23 (by decide) ?_
      exact ih _ _ _ _ _ hf h (lv_sub hl [1, 2, 3, 0] rfl)
def fX2_copyTo (μ0 : gM) (b0 : Nat) (a1 : Int32) (a2 : Int32) : gR := fX2_copyTo_L2 b0 a1 a2 10000 0 μ0
set_option maxHeartbeats 4000000 in
theorem wX2_copyTo (l : Launch) (Γ : gG) (ad : Nat → Nat) (μ0 : gM) (b0 : Nat) (a1 : Int32) (a2 : Int32) (r : Option Value × gM) (hf : fX2_copyTo μ0 b0 a1 a2 = some r) : gMt0 l Γ yX2_copyTo (ws_ yX2_copyTo cX2_copyTo 4 none) ({ frames := 1, cells := 0, slots := 0, locals := 23 } : Room) 0 0 ad μ0 [.ref (ad b0), .int a1, .int a2] r := by
  intro sz
  refine g_start (maxL := 4) (ret := none) (by decide) rfl g_all (Nat.le_of_ble_eq_true rfl) ?_
  intro p e s m below meth c ls hr hlk hnm X h hl
  generalize gA ad μ0 sz = A at X h ⊢
  generalize ([.ref (ad b0), .int a1, .int a2] : List Value).toArray = args at X ⊢
  have X : gX p m c cX2_copyTo 4 s args "SandPianoModel" Γ A := X
  have hl : lv_has ls 4 [(0, .ref (ad b0)), (1, .int a1), (2, .int a2)] := hl
  show W p l e ({ frames := 1, cells := 0, slots := 0, locals := 23 } : Room) s m args below meth c s.heap [] 0 0 (MQ below (gQ0 Γ ad μ0.1 r A) args s 0 0 A) (F0 m 0 ls [])
  unfold fX2_copyTo at hf
  refine lv_iconst (v := 0) X.hx X.hb dX2_copyTo_0 (by decide) ?_
  refine lv_istore_n (lv' := [(3, .int 0), (0, .ref (ad b0)), (1, .int a1), (2, .int a2)]) X.hx X.hb dX2_copyTo_1 rfl hl (by decide) rfl (fun ls hl => ?_)
  refine wX2_copyTo_L2 l b0 a1 a2 X hr hlk 10000 _ _ _ _ _ hf h (lv_sub hl [1, 2, 3, 0] rfl)
/-! X2_isNow -/
def fX2_isNow_L4 (b0 : Nat) (a1 : Int32) : Nat → Int32 → Int32 → gM → gR
  | 0, _, _, _ => none
  | n4 + 1, x1, x2, μ3 => gI (gfld μ3 b0 2 11) fun x5 => if x5 ≤ x2 then (rZ x1 μ3) else (gjn (fun (x6 : Int32) (μ7 : gM) => gnm (x2 + 1) fun x9 => fX2_isNow_L4 b0 a1 n4 x6 x9 μ7) fun j8 => gjn (fun  (μ10 : gM) => j8 0 μ10) fun j11 => if x1 = 0 then (j11 μ3) else (gis μ3 b0 2 <| cI (fX2_v μ3 b0 a1 x2) fun x12 μ13 => gis μ13 b0 2 <| cI (fX2_v μ13 b0 0 x2) fun x14 μ15 => if x12 = x14 then (j8 1 μ15) else (j11 μ15)))
set_option maxHeartbeats 4000000 in
theorem wX2_isNow_L4 {p : Program} {e : Env} {s : State} {m : MethodId} {args : Array Value} {below : List Frame} {meth : Method} {c : Code} {Γ : gG} {A : Nat → Prop} {nz : Nat} {ad : Nat → Nat} {r : Option Value × gM} (l : Launch) (b0 : Nat) (a1 : Int32) (X : gX p m c cX2_isNow 4 s args "SandPianoModel" Γ A) (hr : meth.sig.returnType = (some .boolean)) (hlk : meth.locks = false) : ∀ (n4 : Nat) (x1 : Int32) (x2 : Int32) (μ3 : gM) (H : Heap) (locs : List Loc) (ls : Array Slot), fX2_isNow_L4 b0 a1 n4 x1 x2 μ3 = some r → gWd Γ A nz ad μ3 s.heap H locs → lv_has ls 4 [(0, .ref (ad b0)), (1, .int a1), (2, .int x1), (3, .int x2)] → W p l e ({ frames := 1, cells := 0, slots := 0, locals := 22 } : Room) s m args below meth c H locs 0 0 (MQ below (gQ0 Γ ad nz r A) args s 0 0 A) (F0 m 4 ls []) := by
  intro n4
  induction n4 with
  | zero =>
    intro x1 x2 μ3 H locs ls hf h hl
    have hf : (none : gR) = some r := hf
    cases hf
  | succ n4 ih =>
    intro x1 x2 μ3 H locs ls hf h hl
    rw [fX2_isNow_L4] at hf
    refine lv_iload_n X.hx X.hb dX2_isNow_4 rfl (lv_at hl 3 rfl) ?_
    refine lv_aload_n X.hx X.hb dX2_isNow_5 rfl (lv_at hl 0 rfl) ?_
    refine r_getI X h (ci := 2) (k := 11) (C := RX2) (T := TX2) (N := 36) rfl in_X2 (by decide) q1070 rfl dX2_isNow_6 hf (fun x5 hf => ?_)
    refine lv_icmp_ge (tgt := 43) X.hx X.hb dX2_isNow_9 (by decide) (fun hc => ?_) (fun hc => ?_)
    · replace hf := gif_t hf hc
      clear hc
      refine lv_iload_n X.hx X.hb dX2_isNow_43 rfl (lv_at hl 2 rfl) ?_
      exact r_rz X h hr hlk (Nat.le_of_ble_eq_true rfl) (Nat.le_of_ble_eq_true rfl) dX2_isNow_44 hf
    · replace hf := gif_f hf hc
      clear hc
      refine lv_iload_n X.hx X.hb dX2_isNow_12 rfl (lv_at hl 2 rfl) ?_
      refine r_jn hf (fun j8 ej8 hf => ?_)
      have hj8 : ∀ (x6 : Int32) (μ7 : gM) (H : Heap) (locs : List Loc) (ls : Array Slot), j8 x6 μ7 = some r → gWd Γ A nz ad μ7 s.heap H locs → lv_has ls 4 [(0, .ref (ad b0)), (1, .int a1), (3, .int x2)] → W p l e ({ frames := 1, cells := 0, slots := 0, locals := 22 } : Room) s m args below meth c H locs 0 0 (MQ below (gQ0 Γ ad nz r A) args s 0 0 A) (F0 m 36 ls [.int x6]) := by
        intro x6 μ7 H locs ls hf h hl
        rw [ej8] at hf
        refine lv_istore_n (lv' := [(2, .int x6), (0, .ref (ad b0)), (1, .int a1), (3, .int x2)]) X.hx X.hb dX2_isNow_36 rfl hl (by decide) rfl (fun ls hl => ?_)
        refine r_nmk hf (fun x9 ex hf => ?_)
        refine lv_iinc (v := x9) (lv' := [(3, .int x9), (2, .int x6), (0, .ref (ad b0)), (1, .int a1)]) X.hx X.hb dX2_isNow_37 hl (k := 3) rfl (by rw [ex]; rfl) (by decide) rfl (fun ls hl => ?_)
        clear ex
        refine lv_goto (tgt := 4) X.hx X.hb dX2_isNow_40 (by decide) ?_
        exact ih _ _ _ _ _ _ hf h (lv_sub hl [2, 3, 1, 0] rfl)
      clear ej8
      refine r_jn hf (fun j11 ej11 hf => ?_)
      have hj11 : ∀  (μ10 : gM) (H : Heap) (locs : List Loc) (ls : Array Slot), j11  μ10 = some r → gWd Γ A nz ad μ10 s.heap H locs → lv_has ls 4 [(0, .ref (ad b0)), (1, .int a1), (3, .int x2)] → W p l e ({ frames := 1, cells := 0, slots := 0, locals := 22 } : Room) s m args below meth c H locs 0 0 (MQ below (gQ0 Γ ad nz r A) args s 0 0 A) (F0 m 35 ls []) := by
        intro μ10 H locs ls hf h hl
        rw [ej11] at hf
        refine lv_iconst (v := 0) X.hx X.hb dX2_isNow_35 (by decide) ?_
        exact hj8 _ _ _ _ _ hf h (lv_sub hl [0, 1, 2] rfl)
      clear ej11
      refine lv_if_eq (tgt := 35) X.hx X.hb dX2_isNow_13 (by decide) (fun hc => ?_) (fun hc => ?_)
      · replace hf := gif_t hf hc
        clear hc
        exact hj11 _ _ _ _ hf h (lv_sub hl [0, 1, 3] rfl)
      · replace hf := gif_f hf hc
        clear hc
        refine lv_aload_n X.hx X.hb dX2_isNow_16 rfl (lv_at hl 0 rfl) ?_
        refine lv_iload_n X.hx X.hb dX2_isNow_17 rfl (lv_at hl 1 rfl) ?_
        refine lv_iload_n X.hx X.hb dX2_isNow_18 rfl (lv_at hl 3 rfl) ?_
        refine r_cVI (As := [.int a1, .int x2]) (rest := []) (C := RX2) (T := TX2) (N := 36) X h hf (fun res hres => wX2_v l Γ ad _ b0 a1 x2 res hres) rfl (cwV 2 X.hts (lw_V q1289 q1291 qs49 q84 q1292) rfl rfl rfl (by decide +kernel) ⟨Nat.le_of_ble_eq_true rfl, Nat.le_of_ble_eq_true rfl⟩) rfl ⟨hl.1, Nat.le_of_ble_eq_true rfl, Nat.le_of_ble_eq_true rfl, Nat.le_of_ble_eq_true rfl⟩ rfl dX2_isNow_19 (fun x12 μ13 H locs hf h => ?_)
        refine lv_aload_n X.hx X.hb dX2_isNow_22 rfl (lv_at hl 0 rfl) ?_
        refine lv_iconst (v := 0) X.hx X.hb dX2_isNow_23 (by decide) ?_
        refine lv_iload_n X.hx X.hb dX2_isNow_24 rfl (lv_at hl 3 rfl) ?_
        refine r_cVI (As := [.int 0, .int x2]) (rest := [.int x12]) (C := RX2) (T := TX2) (N := 36) X h hf (fun res hres => wX2_v l Γ ad _ b0 0 x2 res hres) rfl (cwV 2 X.hts (lw_V q1289 q1291 qs49 q84 q1292) rfl rfl rfl (by decide +kernel) ⟨Nat.le_of_ble_eq_true rfl, Nat.le_of_ble_eq_true rfl⟩) rfl ⟨hl.1, Nat.le_of_ble_eq_true rfl, Nat.le_of_ble_eq_true rfl, Nat.le_of_ble_eq_true rfl⟩ rfl dX2_isNow_25 (fun x14 μ15 H locs hf h => ?_)
        refine lv_icmp_ne (tgt := 35) X.hx X.hb dX2_isNow_28 (by decide) (fun hc => ?_) (fun hc => ?_)
        · replace hf := gif_f hf hc
          clear hc
          exact hj11 _ _ _ _ hf h (lv_sub hl [0, 1, 3] rfl)
        · replace hf := gif_t hf hc
          clear hc
          refine lv_iconst (v := 1) X.hx X.hb dX2_isNow_31 (by decide) ?_
          refine lv_goto (tgt := 36) X.hx X.hb dX2_isNow_32 (by decide) ?_
          exact hj8 _ _ _ _ _ hf h (lv_sub hl [0, 1, 3] rfl)
def fX2_isNow (μ0 : gM) (b0 : Nat) (a1 : Int32) : gR := fX2_isNow_L4 b0 a1 10000 1 0 μ0
set_option maxHeartbeats 4000000 in
theorem wX2_isNow (l : Launch) (Γ : gG) (ad : Nat → Nat) (μ0 : gM) (b0 : Nat) (a1 : Int32) (r : Option Value × gM) (hf : fX2_isNow μ0 b0 a1 = some r) : gMt0 l Γ yX2_isNow (ws_ yX2_isNow cX2_isNow 4 (some .boolean)) ({ frames := 1, cells := 0, slots := 0, locals := 22 } : Room) 0 0 ad μ0 [.ref (ad b0), .int a1] r := by
  intro sz
  refine g_start (maxL := 4) (ret := (some .boolean)) (by decide) rfl g_all (Nat.le_of_ble_eq_true rfl) ?_
  intro p e s m below meth c ls hr hlk hnm X h hl
  generalize gA ad μ0 sz = A at X h ⊢
  generalize ([.ref (ad b0), .int a1] : List Value).toArray = args at X ⊢
  have X : gX p m c cX2_isNow 4 s args "SandPianoModel" Γ A := X
  have hl : lv_has ls 4 [(0, .ref (ad b0)), (1, .int a1)] := hl
  show W p l e ({ frames := 1, cells := 0, slots := 0, locals := 22 } : Room) s m args below meth c s.heap [] 0 0 (MQ below (gQ0 Γ ad μ0.1 r A) args s 0 0 A) (F0 m 0 ls [])
  unfold fX2_isNow at hf
  refine lv_iconst (v := 1) X.hx X.hb dX2_isNow_0 (by decide) ?_
  refine lv_istore_n (lv' := [(2, .int 1), (0, .ref (ad b0)), (1, .int a1)]) X.hx X.hb dX2_isNow_1 rfl hl (by decide) rfl (fun ls hl => ?_)
  refine lv_iconst (v := 0) X.hx X.hb dX2_isNow_2 (by decide) ?_
  refine lv_istore_n (lv' := [(3, .int 0), (2, .int 1), (0, .ref (ad b0)), (1, .int a1)]) X.hx X.hb dX2_isNow_3 rfl hl (by decide) rfl (fun ls hl => ?_)
  refine wX2_isNow_L4 l b0 a1 X hr hlk 10000 _ _ _ _ _ _ hf h (lv_sub hl [2, 3, 1, 0] rfl)
/-! X2_leftOf -/
def fX2_leftOf (μ0 : gM) (b0 : Nat) (a1 : Int32) : gR := if a1 = 0 then (some (some (.int 6), μ0)) else (some (some (.int (a1 - 1)), μ0))
set_option maxHeartbeats 4000000 in
theorem wX2_leftOf (l : Launch) (Γ : gG) (ad : Nat → Nat) (μ0 : gM) (b0 : Nat) (a1 : Int32) (r : Option Value × gM) (hf : fX2_leftOf μ0 b0 a1 = some r) : gMt0 l Γ yX2_leftOf (ws_ yX2_leftOf cX2_leftOf 2 (some .int)) ({ frames := 0, cells := 0, slots := 0, locals := 0 } : Room) 0 0 ad μ0 [.ref (ad b0), .int a1] r := by
  intro sz
  refine g_start (maxL := 2) (ret := (some .int)) (by decide) rfl g_all (Nat.le_of_ble_eq_true rfl) ?_
  intro p e s m below meth c ls hr hlk hnm X h hl
  generalize gA ad μ0 sz = A at X h ⊢
  generalize ([.ref (ad b0), .int a1] : List Value).toArray = args at X ⊢
  have X : gX p m c cX2_leftOf 2 s args "SandPianoModel" Γ A := X
  have hl : lv_has ls 2 [(0, .ref (ad b0)), (1, .int a1)] := hl
  show W p l e ({ frames := 0, cells := 0, slots := 0, locals := 0 } : Room) s m args below meth c s.heap [] 0 0 (MQ below (gQ0 Γ ad μ0.1 r A) args s 0 0 A) (F0 m 0 ls [])
  unfold fX2_leftOf at hf
  refine lv_iload_n X.hx X.hb dX2_leftOf_0 rfl (lv_at hl 1 rfl) ?_
  refine lv_if_ne (tgt := 9) X.hx X.hb dX2_leftOf_1 (by decide) (fun hc => ?_) (fun hc => ?_)
  · replace hf := gif_f hf hc
    clear hc
    refine lv_iload_n X.hx X.hb dX2_leftOf_9 rfl (lv_at hl 1 rfl) ?_
    refine lv_iconst (v := 1) X.hx X.hb dX2_leftOf_10 (by decide) ?_
    refine lv_isub X.hx X.hb dX2_leftOf_11 ?_
    exact r_ri X h hr hlk (Nat.le_of_ble_eq_true rfl) (Nat.le_of_ble_eq_true rfl) dX2_leftOf_12 hf
  · replace hf := gif_t hf hc
    clear hc
    refine lv_bipush (v := 6) X.hx X.hb dX2_leftOf_4 (by decide) ?_
    refine lv_goto (tgt := 12) X.hx X.hb dX2_leftOf_6 (by decide) ?_
    exact r_ri X h hr hlk (Nat.le_of_ble_eq_true rfl) (Nat.le_of_ble_eq_true rfl) dX2_leftOf_12 hf
/-! X2_lesser -/
def fX2_lesser (μ0 : gM) (a1 : Int32) (a2 : Int32) : gR := if a2 ≤ a1 then (some (some (.int a2), μ0)) else (some (some (.int a1), μ0))
set_option maxHeartbeats 4000000 in
theorem wX2_lesser (l : Launch) (Γ : gG) (ad : Nat → Nat) (μ0 : gM) (a1 : Int32) (a2 : Int32) (r : Option Value × gM) (hf : fX2_lesser μ0 a1 a2 = some r) : gMt0 l Γ yX2_lesser (ws_ yX2_lesser cX2_lesser 2 (some .int)) ({ frames := 0, cells := 0, slots := 0, locals := 0 } : Room) 0 0 ad μ0 [.int a1, .int a2] r := by
  intro sz
  refine g_start (maxL := 2) (ret := (some .int)) (by decide) rfl g_all (Nat.le_of_ble_eq_true rfl) ?_
  intro p e s m below meth c ls hr hlk hnm X h hl
  generalize gA ad μ0 sz = A at X h ⊢
  generalize ([.int a1, .int a2] : List Value).toArray = args at X ⊢
  have X : gX p m c cX2_lesser 2 s args "SandPianoModel" Γ A := X
  have hl : lv_has ls 2 [(0, .int a1), (1, .int a2)] := hl
  show W p l e ({ frames := 0, cells := 0, slots := 0, locals := 0 } : Room) s m args below meth c s.heap [] 0 0 (MQ below (gQ0 Γ ad μ0.1 r A) args s 0 0 A) (F0 m 0 ls [])
  unfold fX2_lesser at hf
  refine lv_iload_n X.hx X.hb dX2_lesser_0 rfl (lv_at hl 0 rfl) ?_
  refine lv_iload_n X.hx X.hb dX2_lesser_1 rfl (lv_at hl 1 rfl) ?_
  refine lv_icmp_ge (tgt := 9) X.hx X.hb dX2_lesser_2 (by decide) (fun hc => ?_) (fun hc => ?_)
  · replace hf := gif_t hf hc
    clear hc
    refine lv_iload_n X.hx X.hb dX2_lesser_9 rfl (lv_at hl 1 rfl) ?_
    exact r_ri X h hr hlk (Nat.le_of_ble_eq_true rfl) (Nat.le_of_ble_eq_true rfl) dX2_lesser_10 hf
  · replace hf := gif_f hf hc
    clear hc
    refine lv_iload_n X.hx X.hb dX2_lesser_5 rfl (lv_at hl 0 rfl) ?_
    refine lv_goto (tgt := 10) X.hx X.hb dX2_lesser_6 (by decide) ?_
    exact r_ri X h hr hlk (Nat.le_of_ble_eq_true rfl) (Nat.le_of_ble_eq_true rfl) dX2_lesser_10 hf
/-! X2_moves -/
def fX2_moves (μ0 : gM) (b0 : Nat) (a1 : Int32) (a2 : Int32) (a3 : Int32) (a4 : Int32) : gR := gis μ0 b0 2 <| cI (fX2_v μ0 b0 a1 a2) fun x1 μ2 => cI (fX2_lesser μ2 a4 x1) fun x3 μ4 => gis μ4 b0 2 <| cV (fX2_add μ4 b0 a1 a2 (-x3)) fun μ5 => gis μ5 b0 2 <| cV (fX2_add μ5 b0 a1 a3 x3) fun μ6 => some (some (.int x3), μ6)
set_option maxHeartbeats 4000000 in
theorem wX2_moves (l : Launch) (Γ : gG) (ad : Nat → Nat) (μ0 : gM) (b0 : Nat) (a1 : Int32) (a2 : Int32) (a3 : Int32) (a4 : Int32) (r : Option Value × gM) (hf : fX2_moves μ0 b0 a1 a2 a3 a4 = some r) : gMt0 l Γ yX2_moves (ws_ yX2_moves cX2_moves 6 (some .int)) ({ frames := 1, cells := 0, slots := 0, locals := 23 } : Room) 0 0 ad μ0 [.ref (ad b0), .int a1, .int a2, .int a3, .int a4] r := by
  intro sz
  refine g_start (maxL := 6) (ret := (some .int)) (by decide) rfl g_all (Nat.le_of_ble_eq_true rfl) ?_
  intro p e s m below meth c ls hr hlk hnm X h hl
  generalize gA ad μ0 sz = A at X h ⊢
  generalize ([.ref (ad b0), .int a1, .int a2, .int a3, .int a4] : List Value).toArray = args at X ⊢
  have X : gX p m c cX2_moves 6 s args "SandPianoModel" Γ A := X
  have hl : lv_has ls 6 [(0, .ref (ad b0)), (1, .int a1), (2, .int a2), (3, .int a3), (4, .int a4)] := hl
  show W p l e ({ frames := 1, cells := 0, slots := 0, locals := 23 } : Room) s m args below meth c s.heap [] 0 0 (MQ below (gQ0 Γ ad μ0.1 r A) args s 0 0 A) (F0 m 0 ls [])
  unfold fX2_moves at hf
  refine lv_iload X.hx X.hb dX2_moves_0 (lv_at hl 4 rfl) ?_
  refine lv_aload_n X.hx X.hb dX2_moves_2 rfl (lv_at hl 0 rfl) ?_
  refine lv_iload_n X.hx X.hb dX2_moves_3 rfl (lv_at hl 1 rfl) ?_
  refine lv_iload_n X.hx X.hb dX2_moves_4 rfl (lv_at hl 2 rfl) ?_
  refine r_cVI (As := [.int a1, .int a2]) (rest := [.int a4]) (C := RX2) (T := TX2) (N := 36) X h hf (fun res hres => wX2_v l Γ ad _ b0 a1 a2 res hres) rfl (cwV 2 X.hts (lw_V q1289 q1291 qs49 q84 q1292) rfl rfl rfl (by decide +kernel) ⟨Nat.le_of_ble_eq_true rfl, Nat.le_of_ble_eq_true rfl⟩) rfl ⟨hl.1, Nat.le_of_ble_eq_true rfl, Nat.le_of_ble_eq_true rfl, Nat.le_of_ble_eq_true rfl⟩ rfl dX2_moves_5 (fun x1 μ2 H locs hf h => ?_)
  refine r_cSI (As := [.int a4, .int x1]) (rest := []) X h hf (fun res hres => wX2_lesser l Γ ad _ a4 x1 res hres) (va_cwS 2 X.hts (lw_S q1301 q1302 q84 q1303) rfl rfl rfl (by decide +kernel) ⟨Nat.le_of_ble_eq_true rfl, Nat.le_of_ble_eq_true rfl⟩) rfl ⟨hl.1, Nat.le_of_ble_eq_true rfl, Nat.le_of_ble_eq_true rfl, Nat.le_of_ble_eq_true rfl⟩ rfl dX2_moves_8 (fun x3 μ4 H locs hf h => ?_)
  refine lv_istore (lv' := [(5, .int x3), (0, .ref (ad b0)), (1, .int a1), (2, .int a2), (3, .int a3), (4, .int a4)]) X.hx X.hb dX2_moves_11 hl (by decide) rfl (fun ls hl => ?_)
  refine lv_aload_n X.hx X.hb dX2_moves_13 rfl (lv_at hl 1 rfl) ?_
  refine lv_iload_n X.hx X.hb dX2_moves_14 rfl (lv_at hl 2 rfl) ?_
  refine lv_iload_n X.hx X.hb dX2_moves_15 rfl (lv_at hl 3 rfl) ?_
  refine lv_iload X.hx X.hb dX2_moves_16 (lv_at hl 0 rfl) ?_
  refine lv_ineg X.hx X.hb dX2_moves_18 ?_
  refine r_cVV (As := [.int a1, .int a2, .int (-x3)]) (rest := []) (C := RX2) (T := TX2) (N := 36) X h hf (fun res hres => wX2_add l Γ ad _ b0 a1 a2 (-x3) res hres) rfl (cwV 3 X.hts (lw_V q1342 q1344 qs57 q84 q1345) rfl rfl rfl (by decide +kernel) ⟨Nat.le_of_ble_eq_true rfl, Nat.le_of_ble_eq_true rfl⟩) rfl ⟨hl.1, Nat.le_of_ble_eq_true rfl, Nat.le_of_ble_eq_true rfl, Nat.le_of_ble_eq_true rfl⟩ rfl dX2_moves_19 (fun μ5 H locs hf h => ?_)
  refine lv_aload_n X.hx X.hb dX2_moves_22 rfl (lv_at hl 1 rfl) ?_
  refine lv_iload_n X.hx X.hb dX2_moves_23 rfl (lv_at hl 2 rfl) ?_
  refine lv_iload_n X.hx X.hb dX2_moves_24 rfl (lv_at hl 4 rfl) ?_
  refine lv_iload X.hx X.hb dX2_moves_25 (lv_at hl 0 rfl) ?_
  refine r_cVV (As := [.int a1, .int a3, .int x3]) (rest := []) (C := RX2) (T := TX2) (N := 36) X h hf (fun res hres => wX2_add l Γ ad _ b0 a1 a3 x3 res hres) rfl (cwV 3 X.hts (lw_V q1342 q1344 qs57 q84 q1345) rfl rfl rfl (by decide +kernel) ⟨Nat.le_of_ble_eq_true rfl, Nat.le_of_ble_eq_true rfl⟩) rfl ⟨hl.1, Nat.le_of_ble_eq_true rfl, Nat.le_of_ble_eq_true rfl, Nat.le_of_ble_eq_true rfl⟩ rfl dX2_moves_27 (fun μ6 H locs hf h => ?_)
  refine lv_iload X.hx X.hb dX2_moves_30 (lv_at hl 0 rfl) ?_
  exact r_ri X h hr hlk (Nat.le_of_ble_eq_true rfl) (Nat.le_of_ble_eq_true rfl) dX2_moves_32 hf
/-! X2_rightOf -/
def fX2_rightOf (μ0 : gM) (b0 : Nat) (a1 : Int32) : gR := gI (gfld μ0 b0 2 11) fun x1 => if a1 = (x1 - 1) then (some (some (.int 6), μ0)) else (some (some (.int (a1 + 1)), μ0))
set_option maxHeartbeats 4000000 in
theorem wX2_rightOf (l : Launch) (Γ : gG) (ad : Nat → Nat) (μ0 : gM) (b0 : Nat) (a1 : Int32) (r : Option Value × gM) (hf : fX2_rightOf μ0 b0 a1 = some r) : gMt0 l Γ yX2_rightOf (ws_ yX2_rightOf cX2_rightOf 2 (some .int)) ({ frames := 0, cells := 0, slots := 0, locals := 0 } : Room) 0 0 ad μ0 [.ref (ad b0), .int a1] r := by
  intro sz
  refine g_start (maxL := 2) (ret := (some .int)) (by decide) rfl g_all (Nat.le_of_ble_eq_true rfl) ?_
  intro p e s m below meth c ls hr hlk hnm X h hl
  generalize gA ad μ0 sz = A at X h ⊢
  generalize ([.ref (ad b0), .int a1] : List Value).toArray = args at X ⊢
  have X : gX p m c cX2_rightOf 2 s args "SandPianoModel" Γ A := X
  have hl : lv_has ls 2 [(0, .ref (ad b0)), (1, .int a1)] := hl
  show W p l e ({ frames := 0, cells := 0, slots := 0, locals := 0 } : Room) s m args below meth c s.heap [] 0 0 (MQ below (gQ0 Γ ad μ0.1 r A) args s 0 0 A) (F0 m 0 ls [])
  unfold fX2_rightOf at hf
  refine lv_iload_n X.hx X.hb dX2_rightOf_0 rfl (lv_at hl 1 rfl) ?_
  refine lv_aload_n X.hx X.hb dX2_rightOf_1 rfl (lv_at hl 0 rfl) ?_
  refine r_getI X h (ci := 2) (k := 11) (C := RX2) (T := TX2) (N := 36) rfl in_X2 (by decide) q1070 rfl dX2_rightOf_2 hf (fun x1 hf => ?_)
  refine lv_iconst (v := 1) X.hx X.hb dX2_rightOf_5 (by decide) ?_
  refine lv_isub X.hx X.hb dX2_rightOf_6 ?_
  refine lv_icmp_ne (tgt := 15) X.hx X.hb dX2_rightOf_7 (by decide) (fun hc => ?_) (fun hc => ?_)
  · replace hf := gif_f hf hc
    clear hc
    refine lv_iload_n X.hx X.hb dX2_rightOf_15 rfl (lv_at hl 1 rfl) ?_
    refine lv_iconst (v := 1) X.hx X.hb dX2_rightOf_16 (by decide) ?_
    refine lv_iadd X.hx X.hb dX2_rightOf_17 ?_
    exact r_ri X h hr hlk (Nat.le_of_ble_eq_true rfl) (Nat.le_of_ble_eq_true rfl) dX2_rightOf_18 hf
  · replace hf := gif_t hf hc
    clear hc
    refine lv_bipush (v := 6) X.hx X.hb dX2_rightOf_10 (by decide) ?_
    refine lv_goto (tgt := 18) X.hx X.hb dX2_rightOf_12 (by decide) ?_
    exact r_ri X h hr hlk (Nat.le_of_ble_eq_true rfl) (Nat.le_of_ble_eq_true rfl) dX2_rightOf_18 hf
/-! X2_plays -/
def fX2_plays (μ0 : gM) (b0 : Nat) (a1 : Int32) (a2 : Int32) : gR := gP (gfld μ0 b0 2 12) fun i1 => gaI μ0 0 i1 a2 fun x2 => gjn (fun  (μ3 : gM) => gP (gfld μ3 b0 2 14) fun i5 => gaI μ3 0 i5 a2 fun x6 => gis μ3 b0 2 <| cV (fX2_add μ3 b0 a1 8 x6) fun μ7 => some (none, μ7)) fun j4 => if x2 = 0 then (gis μ0 b0 2 <| cI (fX2_rightOf μ0 b0 a2) fun x8 μ9 => gis μ9 b0 2 <| cI (fX2_moves μ9 b0 a1 a2 x8 1) fun x10 μ11 => j4 μ11) else if x2 = 1 then (gis μ0 b0 2 <| cI (fX2_leftOf μ0 b0 a2) fun x12 μ13 => gis μ13 b0 2 <| cI (fX2_moves μ13 b0 a1 a2 x12 2) fun x14 μ15 => j4 μ15) else if x2 = 2 then (j4 μ0) else if x2 = 3 then (gis μ0 b0 2 <| cI (fX2_leftOf μ0 b0 a2) fun x16 μ17 => gis μ17 b0 2 <| cI (fX2_moves μ17 b0 a1 x16 a2 1) fun x18 μ19 => j4 μ19) else if x2 = 4 then (gis μ0 b0 2 <| cI (fX2_leftOf μ0 b0 a2) fun x20 μ21 => gis μ21 b0 2 <| cI (fX2_moves μ21 b0 a1 a2 x20 1) fun x22 μ23 => gis μ23 b0 2 <| cI (fX2_rightOf μ23 b0 a2) fun x24 μ25 => gis μ25 b0 2 <| cI (fX2_moves μ25 b0 a1 a2 x24 1) fun x26 μ27 => j4 μ27) else (j4 μ0)
set_option maxHeartbeats 4000000 in
theorem wX2_plays (l : Launch) (Γ : gG) (ad : Nat → Nat) (μ0 : gM) (b0 : Nat) (a1 : Int32) (a2 : Int32) (r : Option Value × gM) (hf : fX2_plays μ0 b0 a1 a2 = some r) : gMt0 l Γ yX2_plays (ws_ yX2_plays cX2_plays 3 none) ({ frames := 2, cells := 0, slots := 0, locals := 48 } : Room) 0 0 ad μ0 [.ref (ad b0), .int a1, .int a2] r := by
  intro sz
  refine g_start (maxL := 3) (ret := none) (by decide) rfl g_all (Nat.le_of_ble_eq_true rfl) ?_
  intro p e s m below meth c ls hr hlk hnm X h hl
  generalize gA ad μ0 sz = A at X h ⊢
  generalize ([.ref (ad b0), .int a1, .int a2] : List Value).toArray = args at X ⊢
  have X : gX p m c cX2_plays 3 s args "SandPianoModel" Γ A := X
  have hl : lv_has ls 3 [(0, .ref (ad b0)), (1, .int a1), (2, .int a2)] := hl
  show W p l e ({ frames := 2, cells := 0, slots := 0, locals := 48 } : Room) s m args below meth c s.heap [] 0 0 (MQ below (gQ0 Γ ad μ0.1 r A) args s 0 0 A) (F0 m 0 ls [])
  unfold fX2_plays at hf
  refine lv_aload_n X.hx X.hb dX2_plays_0 rfl (lv_at hl 0 rfl) ?_
  refine r_getP X h (ci := 2) (k := 12) (C := RX2) (T := TX2) (N := 36) rfl in_X2 (by decide) q1071 rfl dX2_plays_1 hf (fun i1 hf => ?_)
  refine lv_iload_n X.hx X.hb dX2_plays_4 rfl (lv_at hl 2 rfl) ?_
  refine r_iald X h dX2_plays_5 hf (fun x2 hf => ?_)
  refine r_jn hf (fun j4 ej4 hf => ?_)
  have hj4 : ∀  (μ3 : gM) (H : Heap) (locs : List Loc) (ls : Array Slot), j4  μ3 = some r → gWd Γ A μ0.1 ad μ3 s.heap H locs → lv_has ls 3 [(0, .ref (ad b0)), (1, .int a1), (2, .int a2)] → W p l e ({ frames := 2, cells := 0, slots := 0, locals := 48 } : Room) s m args below meth c H locs 0 0 (MQ below (gQ0 Γ ad μ0.1 r A) args s 0 0 A) (F0 m 117 ls []) := by
    intro μ3 H locs ls hf h hl
    rw [ej4] at hf
    refine lv_aload_n X.hx X.hb dX2_plays_117 rfl (lv_at hl 0 rfl) ?_
    refine lv_iload_n X.hx X.hb dX2_plays_118 rfl (lv_at hl 1 rfl) ?_
    refine lv_bipush (v := 8) X.hx X.hb dX2_plays_119 (by decide) ?_
    refine lv_aload_n X.hx X.hb dX2_plays_121 rfl (lv_at hl 0 rfl) ?_
    refine r_getP X h (ci := 2) (k := 14) (C := RX2) (T := TX2) (N := 36) rfl in_X2 (by decide) q1073 rfl dX2_plays_122 hf (fun i5 hf => ?_)
    refine lv_iload_n X.hx X.hb dX2_plays_125 rfl (lv_at hl 2 rfl) ?_
    refine r_iald X h dX2_plays_126 hf (fun x6 hf => ?_)
    refine r_cVV (As := [.int a1, .int 8, .int x6]) (rest := []) (C := RX2) (T := TX2) (N := 36) X h hf (fun res hres => wX2_add l Γ ad _ b0 a1 8 x6 res hres) rfl (cwV 3 X.hts (lw_V q1342 q1344 qs57 q84 q1345) rfl rfl rfl (by decide +kernel) ⟨Nat.le_of_ble_eq_true rfl, Nat.le_of_ble_eq_true rfl⟩) rfl ⟨hl.1, Nat.le_of_ble_eq_true rfl, Nat.le_of_ble_eq_true rfl, Nat.le_of_ble_eq_true rfl⟩ rfl dX2_plays_127 (fun μ7 H locs hf h => ?_)
    exact r_rv X h hr hlk (Nat.le_of_ble_eq_true rfl) (Nat.le_of_ble_eq_true rfl) dX2_plays_130 hf
  clear ej4
  by_cases hc0 : x2 = 0
  · replace hf := gif_t hf hc0
    refine lv_tableIn (tgt := 40) X.hx X.hb dX2_plays_6 (by rw [hc0]; decide) (by rw [hc0]; decide) (by rw [hc0]; rfl) (by decide) ?_
    clear hc0
    refine lv_aload_n X.hx X.hb dX2_plays_40 rfl (lv_at hl 0 rfl) ?_
    refine lv_iload_n X.hx X.hb dX2_plays_41 rfl (lv_at hl 1 rfl) ?_
    refine lv_iload_n X.hx X.hb dX2_plays_42 rfl (lv_at hl 2 rfl) ?_
    refine lv_aload_n X.hx X.hb dX2_plays_43 rfl (lv_at hl 0 rfl) ?_
    refine lv_iload_n X.hx X.hb dX2_plays_44 rfl (lv_at hl 2 rfl) ?_
    refine r_cVI (As := [.int a2]) (rest := [.int a2, .int a1, .ref (ad b0)]) (C := RX2) (T := TX2) (N := 36) X h hf (fun res hres => wX2_rightOf l Γ ad _ b0 a2 res hres) rfl (cwV 1 X.hts (lw_V q1334 q1336 qs55 q84 q1337) rfl rfl rfl (by decide +kernel) ⟨Nat.le_of_ble_eq_true rfl, Nat.le_of_ble_eq_true rfl⟩) rfl ⟨hl.1, Nat.le_of_ble_eq_true rfl, Nat.le_of_ble_eq_true rfl, Nat.le_of_ble_eq_true rfl⟩ rfl dX2_plays_45 (fun x8 μ9 H locs hf h => ?_)
    refine lv_iconst (v := 1) X.hx X.hb dX2_plays_48 (by decide) ?_
    refine r_cVI (As := [.int a1, .int a2, .int x8, .int 1]) (rest := []) (C := RX2) (T := TX2) (N := 36) X h hf (fun res hres => wX2_moves l Γ ad _ b0 a1 a2 x8 1 res hres) rfl (cwV 4 X.hts (lw_V q1338 q1340 qs56 q84 q1341) rfl rfl rfl (by decide +kernel) ⟨Nat.le_of_ble_eq_true rfl, Nat.le_of_ble_eq_true rfl⟩) rfl ⟨hl.1, Nat.le_of_ble_eq_true rfl, Nat.le_of_ble_eq_true rfl, Nat.le_of_ble_eq_true rfl⟩ rfl dX2_plays_49 (fun x10 μ11 H locs hf h => ?_)
    refine lv_pop X.hx X.hb dX2_plays_52 rfl ?_
    refine lv_goto (tgt := 117) X.hx X.hb dX2_plays_53 (by decide) ?_
    exact hj4 _ _ _ _ hf h (lv_sub hl [0, 1, 2] rfl)
  replace hf := gif_f hf hc0
  by_cases hc1 : x2 = 1
  · replace hf := gif_t hf hc1
    refine lv_tableIn (tgt := 56) X.hx X.hb dX2_plays_6 (by rw [hc1]; decide) (by rw [hc1]; decide) (by rw [hc1]; rfl) (by decide) ?_
    clear hc1
    refine lv_aload_n X.hx X.hb dX2_plays_56 rfl (lv_at hl 0 rfl) ?_
    refine lv_iload_n X.hx X.hb dX2_plays_57 rfl (lv_at hl 1 rfl) ?_
    refine lv_iload_n X.hx X.hb dX2_plays_58 rfl (lv_at hl 2 rfl) ?_
    refine lv_aload_n X.hx X.hb dX2_plays_59 rfl (lv_at hl 0 rfl) ?_
    refine lv_iload_n X.hx X.hb dX2_plays_60 rfl (lv_at hl 2 rfl) ?_
    refine r_cVI (As := [.int a2]) (rest := [.int a2, .int a1, .ref (ad b0)]) (C := RX2) (T := TX2) (N := 36) X h hf (fun res hres => wX2_leftOf l Γ ad _ b0 a2 res hres) rfl (cwV 1 X.hts (lw_V q1307 q1309 qs51 q84 q1310) rfl rfl rfl (by decide +kernel) ⟨Nat.le_of_ble_eq_true rfl, Nat.le_of_ble_eq_true rfl⟩) rfl ⟨hl.1, Nat.le_of_ble_eq_true rfl, Nat.le_of_ble_eq_true rfl, Nat.le_of_ble_eq_true rfl⟩ rfl dX2_plays_61 (fun x12 μ13 H locs hf h => ?_)
    refine lv_iconst (v := 2) X.hx X.hb dX2_plays_64 (by decide) ?_
    refine r_cVI (As := [.int a1, .int a2, .int x12, .int 2]) (rest := []) (C := RX2) (T := TX2) (N := 36) X h hf (fun res hres => wX2_moves l Γ ad _ b0 a1 a2 x12 2 res hres) rfl (cwV 4 X.hts (lw_V q1338 q1340 qs56 q84 q1341) rfl rfl rfl (by decide +kernel) ⟨Nat.le_of_ble_eq_true rfl, Nat.le_of_ble_eq_true rfl⟩) rfl ⟨hl.1, Nat.le_of_ble_eq_true rfl, Nat.le_of_ble_eq_true rfl, Nat.le_of_ble_eq_true rfl⟩ rfl dX2_plays_65 (fun x14 μ15 H locs hf h => ?_)
    refine lv_pop X.hx X.hb dX2_plays_68 rfl ?_
    refine lv_goto (tgt := 117) X.hx X.hb dX2_plays_69 (by decide) ?_
    exact hj4 _ _ _ _ hf h (lv_sub hl [0, 1, 2] rfl)
  replace hf := gif_f hf hc1
  by_cases hc2 : x2 = 2
  · replace hf := gif_t hf hc2
    refine lv_tableIn (tgt := 117) X.hx X.hb dX2_plays_6 (by rw [hc2]; decide) (by rw [hc2]; decide) (by rw [hc2]; rfl) (by decide) ?_
    clear hc2
    exact hj4 _ _ _ _ hf h (lv_sub hl [0, 1, 2] rfl)
  replace hf := gif_f hf hc2
  by_cases hc3 : x2 = 3
  · replace hf := gif_t hf hc3
    refine lv_tableIn (tgt := 72) X.hx X.hb dX2_plays_6 (by rw [hc3]; decide) (by rw [hc3]; decide) (by rw [hc3]; rfl) (by decide) ?_
    clear hc3
    refine lv_aload_n X.hx X.hb dX2_plays_72 rfl (lv_at hl 0 rfl) ?_
    refine lv_iload_n X.hx X.hb dX2_plays_73 rfl (lv_at hl 1 rfl) ?_
    refine lv_aload_n X.hx X.hb dX2_plays_74 rfl (lv_at hl 0 rfl) ?_
    refine lv_iload_n X.hx X.hb dX2_plays_75 rfl (lv_at hl 2 rfl) ?_
    refine r_cVI (As := [.int a2]) (rest := [.int a1, .ref (ad b0)]) (C := RX2) (T := TX2) (N := 36) X h hf (fun res hres => wX2_leftOf l Γ ad _ b0 a2 res hres) rfl (cwV 1 X.hts (lw_V q1307 q1309 qs51 q84 q1310) rfl rfl rfl (by decide +kernel) ⟨Nat.le_of_ble_eq_true rfl, Nat.le_of_ble_eq_true rfl⟩) rfl ⟨hl.1, Nat.le_of_ble_eq_true rfl, Nat.le_of_ble_eq_true rfl, Nat.le_of_ble_eq_true rfl⟩ rfl dX2_plays_76 (fun x16 μ17 H locs hf h => ?_)
    refine lv_iload_n X.hx X.hb dX2_plays_79 rfl (lv_at hl 2 rfl) ?_
    refine lv_iconst (v := 1) X.hx X.hb dX2_plays_80 (by decide) ?_
    refine r_cVI (As := [.int a1, .int x16, .int a2, .int 1]) (rest := []) (C := RX2) (T := TX2) (N := 36) X h hf (fun res hres => wX2_moves l Γ ad _ b0 a1 x16 a2 1 res hres) rfl (cwV 4 X.hts (lw_V q1338 q1340 qs56 q84 q1341) rfl rfl rfl (by decide +kernel) ⟨Nat.le_of_ble_eq_true rfl, Nat.le_of_ble_eq_true rfl⟩) rfl ⟨hl.1, Nat.le_of_ble_eq_true rfl, Nat.le_of_ble_eq_true rfl, Nat.le_of_ble_eq_true rfl⟩ rfl dX2_plays_81 (fun x18 μ19 H locs hf h => ?_)
    refine lv_pop X.hx X.hb dX2_plays_84 rfl ?_
    refine lv_goto (tgt := 117) X.hx X.hb dX2_plays_85 (by decide) ?_
    exact hj4 _ _ _ _ hf h (lv_sub hl [0, 1, 2] rfl)
  replace hf := gif_f hf hc3
  by_cases hc4 : x2 = 4
  · replace hf := gif_t hf hc4
    refine lv_tableIn (tgt := 88) X.hx X.hb dX2_plays_6 (by rw [hc4]; decide) (by rw [hc4]; decide) (by rw [hc4]; rfl) (by decide) ?_
    clear hc4
    refine lv_aload_n X.hx X.hb dX2_plays_88 rfl (lv_at hl 0 rfl) ?_
    refine lv_iload_n X.hx X.hb dX2_plays_89 rfl (lv_at hl 1 rfl) ?_
    refine lv_iload_n X.hx X.hb dX2_plays_90 rfl (lv_at hl 2 rfl) ?_
    refine lv_aload_n X.hx X.hb dX2_plays_91 rfl (lv_at hl 0 rfl) ?_
    refine lv_iload_n X.hx X.hb dX2_plays_92 rfl (lv_at hl 2 rfl) ?_
    refine r_cVI (As := [.int a2]) (rest := [.int a2, .int a1, .ref (ad b0)]) (C := RX2) (T := TX2) (N := 36) X h hf (fun res hres => wX2_leftOf l Γ ad _ b0 a2 res hres) rfl (cwV 1 X.hts (lw_V q1307 q1309 qs51 q84 q1310) rfl rfl rfl (by decide +kernel) ⟨Nat.le_of_ble_eq_true rfl, Nat.le_of_ble_eq_true rfl⟩) rfl ⟨hl.1, Nat.le_of_ble_eq_true rfl, Nat.le_of_ble_eq_true rfl, Nat.le_of_ble_eq_true rfl⟩ rfl dX2_plays_93 (fun x20 μ21 H locs hf h => ?_)
    refine lv_iconst (v := 1) X.hx X.hb dX2_plays_96 (by decide) ?_
    refine r_cVI (As := [.int a1, .int a2, .int x20, .int 1]) (rest := []) (C := RX2) (T := TX2) (N := 36) X h hf (fun res hres => wX2_moves l Γ ad _ b0 a1 a2 x20 1 res hres) rfl (cwV 4 X.hts (lw_V q1338 q1340 qs56 q84 q1341) rfl rfl rfl (by decide +kernel) ⟨Nat.le_of_ble_eq_true rfl, Nat.le_of_ble_eq_true rfl⟩) rfl ⟨hl.1, Nat.le_of_ble_eq_true rfl, Nat.le_of_ble_eq_true rfl, Nat.le_of_ble_eq_true rfl⟩ rfl dX2_plays_97 (fun x22 μ23 H locs hf h => ?_)
    refine lv_pop X.hx X.hb dX2_plays_100 rfl ?_
    refine lv_aload_n X.hx X.hb dX2_plays_101 rfl (lv_at hl 0 rfl) ?_
    refine lv_iload_n X.hx X.hb dX2_plays_102 rfl (lv_at hl 1 rfl) ?_
    refine lv_iload_n X.hx X.hb dX2_plays_103 rfl (lv_at hl 2 rfl) ?_
    refine lv_aload_n X.hx X.hb dX2_plays_104 rfl (lv_at hl 0 rfl) ?_
    refine lv_iload_n X.hx X.hb dX2_plays_105 rfl (lv_at hl 2 rfl) ?_
    refine r_cVI (As := [.int a2]) (rest := [.int a2, .int a1, .ref (ad b0)]) (C := RX2) (T := TX2) (N := 36) X h hf (fun res hres => wX2_rightOf l Γ ad _ b0 a2 res hres) rfl (cwV 1 X.hts (lw_V q1334 q1336 qs55 q84 q1337) rfl rfl rfl (by decide +kernel) ⟨Nat.le_of_ble_eq_true rfl, Nat.le_of_ble_eq_true rfl⟩) rfl ⟨hl.1, Nat.le_of_ble_eq_true rfl, Nat.le_of_ble_eq_true rfl, Nat.le_of_ble_eq_true rfl⟩ rfl dX2_plays_106 (fun x24 μ25 H locs hf h => ?_)
    refine lv_iconst (v := 1) X.hx X.hb dX2_plays_109 (by decide) ?_
    refine r_cVI (As := [.int a1, .int a2, .int x24, .int 1]) (rest := []) (C := RX2) (T := TX2) (N := 36) X h hf (fun res hres => wX2_moves l Γ ad _ b0 a1 a2 x24 1 res hres) rfl (cwV 4 X.hts (lw_V q1338 q1340 qs56 q84 q1341) rfl rfl rfl (by decide +kernel) ⟨Nat.le_of_ble_eq_true rfl, Nat.le_of_ble_eq_true rfl⟩) rfl ⟨hl.1, Nat.le_of_ble_eq_true rfl, Nat.le_of_ble_eq_true rfl, Nat.le_of_ble_eq_true rfl⟩ rfl dX2_plays_110 (fun x26 μ27 H locs hf h => ?_)
    refine lv_pop X.hx X.hb dX2_plays_113 rfl ?_
    refine lv_goto (tgt := 117) X.hx X.hb dX2_plays_114 (by decide) ?_
    exact hj4 _ _ _ _ hf h (lv_sub hl [0, 1, 2] rfl)
  replace hf := gif_f hf hc4
  have hn0 : (x2 : Int32).toInt ≠ 0 := fun h9 => hc0 (Int32.toInt_inj.mp (h9.trans (by decide)))
  have hn1 : (x2 : Int32).toInt ≠ 1 := fun h9 => hc1 (Int32.toInt_inj.mp (h9.trans (by decide)))
  have hn2 : (x2 : Int32).toInt ≠ 2 := fun h9 => hc2 (Int32.toInt_inj.mp (h9.trans (by decide)))
  have hn3 : (x2 : Int32).toInt ≠ 3 := fun h9 => hc3 (Int32.toInt_inj.mp (h9.trans (by decide)))
  have hn4 : (x2 : Int32).toInt ≠ 4 := fun h9 => hc4 (Int32.toInt_inj.mp (h9.trans (by decide)))
  refine lv_tableOut (tgt := 117) X.hx X.hb dX2_plays_6 (by omega) (by decide) ?_
  clear hn0 hn1 hn2 hn3 hn4 hc0 hc1 hc2 hc3 hc4
  exact hj4 _ _ _ _ hf h (lv_sub hl [0, 1, 2] rfl)
/-! X2_takeTried -/
def fX2_takeTried_L2 (b0 : Nat) (a1 : Int32) : Nat → Int32 → gM → gR
  | 0, _, _ => none
  | n3 + 1, x1, μ2 => if a1 ≤ x1 then (some (none, μ2)) else (gP (gfld μ2 b0 2 29) fun i4 => gP (gfld μ2 b0 2 28) fun i5 => gaI μ2 0 i5 x1 fun x6 => gsI μ2 0 i4 x1 x6 fun μ7 => gnm (x1 + 1) fun x8 => fX2_takeTried_L2 b0 a1 n3 x8 μ7)
set_option maxHeartbeats 4000000 in
theorem wX2_takeTried_L2 {p : Program} {e : Env} {s : State} {m : MethodId} {args : Array Value} {below : List Frame} {meth : Method} {c : Code} {Γ : gG} {A : Nat → Prop} {nz : Nat} {ad : Nat → Nat} {r : Option Value × gM} (l : Launch) (b0 : Nat) (a1 : Int32) (X : gX p m c cX2_takeTried 3 s args "SandPianoModel" Γ A) (hr : meth.sig.returnType = none) (hlk : meth.locks = false) : ∀ (n3 : Nat) (x1 : Int32) (μ2 : gM) (H : Heap) (locs : List Loc) (ls : Array Slot), fX2_takeTried_L2 b0 a1 n3 x1 μ2 = some r → gWd Γ A nz ad μ2 s.heap H locs → lv_has ls 3 [(0, .ref (ad b0)), (1, .int a1), (2, .int x1)] → W p l e ({ frames := 0, cells := 0, slots := 0, locals := 0 } : Room) s m args below meth c H locs 0 0 (MQ below (gQ0 Γ ad nz r A) args s 0 0 A) (F0 m 2 ls []) := by
  intro n3
  induction n3 with
  | zero =>
    intro x1 μ2 H locs ls hf h hl
    have hf : (none : gR) = some r := hf
    cases hf
  | succ n3 ih =>
    intro x1 μ2 H locs ls hf h hl
    rw [fX2_takeTried_L2] at hf
    refine lv_iload_n X.hx X.hb dX2_takeTried_2 rfl (lv_at hl 2 rfl) ?_
    refine lv_iload_n X.hx X.hb dX2_takeTried_3 rfl (lv_at hl 1 rfl) ?_
    refine lv_icmp_ge (tgt := 25) X.hx X.hb dX2_takeTried_4 (by decide) (fun hc => ?_) (fun hc => ?_)
    · replace hf := gif_t hf hc
      clear hc
      exact r_rv X h hr hlk (Nat.le_of_ble_eq_true rfl) (Nat.le_of_ble_eq_true rfl) dX2_takeTried_25 hf
    · replace hf := gif_f hf hc
      clear hc
      refine lv_aload_n X.hx X.hb dX2_takeTried_7 rfl (lv_at hl 0 rfl) ?_
      refine r_getP X h (ci := 2) (k := 29) (C := RX2) (T := TX2) (N := 36) rfl in_X2 (by decide) q1088 rfl dX2_takeTried_8 hf (fun i4 hf => ?_)
      refine lv_iload_n X.hx X.hb dX2_takeTried_11 rfl (lv_at hl 2 rfl) ?_
      refine lv_aload_n X.hx X.hb dX2_takeTried_12 rfl (lv_at hl 0 rfl) ?_
      refine r_getP X h (ci := 2) (k := 28) (C := RX2) (T := TX2) (N := 36) rfl in_X2 (by decide) q1087 rfl dX2_takeTried_13 hf (fun i5 hf => ?_)
      refine lv_iload_n X.hx X.hb dX2_takeTried_16 rfl (lv_at hl 2 rfl) ?_
      refine r_iald X h dX2_takeTried_17 hf (fun x6 hf => ?_)
      refine r_iast X h dX2_takeTried_18 hf (fun μ7 H locs hf h => ?_)
      refine r_nmk hf (fun x8 ex hf => ?_)
      refine lv_iinc (v := x8) (lv' := [(2, .int x8), (0, .ref (ad b0)), (1, .int a1)]) X.hx X.hb dX2_takeTried_19 hl (k := 2) rfl (by rw [ex]; rfl) (by decide) rfl (fun ls hl => ?_)
      clear ex
      refine lv_goto (tgt := 2) X.hx X.hb dX2_takeTried_22 (by decide) ?_
      exact ih _ _ _ _ _ hf h (lv_sub hl [1, 2, 0] rfl)
def fX2_takeTried (μ0 : gM) (b0 : Nat) (a1 : Int32) : gR := fX2_takeTried_L2 b0 a1 10000 0 μ0
set_option maxHeartbeats 4000000 in
theorem wX2_takeTried (l : Launch) (Γ : gG) (ad : Nat → Nat) (μ0 : gM) (b0 : Nat) (a1 : Int32) (r : Option Value × gM) (hf : fX2_takeTried μ0 b0 a1 = some r) : gMt0 l Γ yX2_takeTried (ws_ yX2_takeTried cX2_takeTried 3 none) ({ frames := 0, cells := 0, slots := 0, locals := 0 } : Room) 0 0 ad μ0 [.ref (ad b0), .int a1] r := by
  intro sz
  refine g_start (maxL := 3) (ret := none) (by decide) rfl g_all (Nat.le_of_ble_eq_true rfl) ?_
  intro p e s m below meth c ls hr hlk hnm X h hl
  generalize gA ad μ0 sz = A at X h ⊢
  generalize ([.ref (ad b0), .int a1] : List Value).toArray = args at X ⊢
  have X : gX p m c cX2_takeTried 3 s args "SandPianoModel" Γ A := X
  have hl : lv_has ls 3 [(0, .ref (ad b0)), (1, .int a1)] := hl
  show W p l e ({ frames := 0, cells := 0, slots := 0, locals := 0 } : Room) s m args below meth c s.heap [] 0 0 (MQ below (gQ0 Γ ad μ0.1 r A) args s 0 0 A) (F0 m 0 ls [])
  unfold fX2_takeTried at hf
  refine lv_iconst (v := 0) X.hx X.hb dX2_takeTried_0 (by decide) ?_
  refine lv_istore_n (lv' := [(2, .int 0), (0, .ref (ad b0)), (1, .int a1)]) X.hx X.hb dX2_takeTried_1 rfl hl (by decide) rfl (fun ls hl => ?_)
  refine wX2_takeTried_L2 l b0 a1 X hr hlk 10000 _ _ _ _ _ hf h (lv_sub hl [1, 2, 0] rfl)
/-! X2_layBack -/
def fX2_layBack_L40 (rec : gM → Nat → Int32 → Int32 → gR) (b0 : Nat) (a1 : Int32) (a2 : Int32) : Nat → Int32 → gM → gR
  | 0, _, _ => none
  | n3 + 1, x1, μ2 => gI (gfld μ2 b0 2 11) fun x4 => if x4 ≤ x1 then (some (none, μ2)) else (gis μ2 b0 2 <| cI (fX2_canPlay μ2 b0 (1 + a1) x1) fun x5 μ6 => gjn (fun  (μ7 : gM) => gnm (x1 + 1) fun x9 => fX2_layBack_L40 rec b0 a1 a2 n3 x9 μ7) fun j8 => if x5 = 0 then (j8 μ6) else (gis μ6 b0 2 <| cV (fX2_copyTo μ6 b0 (1 + a1) (2 + a1)) fun μ10 => gis μ10 b0 2 <| cV (fX2_plays μ10 b0 (2 + a1) x1) fun μ11 => gP (gfld μ11 b0 2 28) fun i12 => gsI μ11 0 i12 a1 x1 fun μ13 => gis μ13 b0 2 <| cV (rec μ13 b0 (a1 + 1) a2) fun μ14 => j8 μ14))
set_option maxHeartbeats 4000000 in
theorem wX2_layBack_L40 {p : Program} {e : Env} {s : State} {m : MethodId} {args : Array Value} {below : List Frame} {meth : Method} {c : Code} {Γ : gG} {A : Nat → Prop} {nz : Nat} {ad : Nat → Nat} {r : Option Value × gM} (l : Launch) (dd : Nat) (rec : gM → Nat → Int32 → Int32 → gR) (b0 : Nat) (a1 : Int32) (a2 : Int32) (X : gX p m c cX2_layBack 4 s args "SandPianoModel" Γ A) (hr : meth.sig.returnType = none) (hlk : meth.locks = false) (hrec : ∀ (ad : Nat → Nat) (μ : gM) (b0 : Nat) (a1 : Int32) (a2 : Int32) (r : Option Value × gM), rec μ b0 a1 a2 = some r → gMt0 l Γ yX2_layBack (ws_ yX2_layBack cX2_layBack 4 none) ({ frames := 3 + dd, cells := 0, slots := 0, locals := 70 + dd * 23 } : Room) 0 0 ad μ [.ref (ad b0), .int a1, .int a2] r) : ∀ (n3 : Nat) (x1 : Int32) (μ2 : gM) (H : Heap) (locs : List Loc) (ls : Array Slot), fX2_layBack_L40 rec b0 a1 a2 n3 x1 μ2 = some r → gWd Γ A nz ad μ2 s.heap H locs → lv_has ls 4 [(0, .ref (ad b0)), (1, .int a1), (2, .int a2), (3, .int x1)] → W p l e ({ frames := 3 + (dd + 1), cells := 0, slots := 0, locals := 70 + (dd + 1) * 23 } : Room) s m args below meth c H locs 0 0 (MQ below (gQ0 Γ ad nz r A) args s 0 0 A) (F0 m 40 ls []) := by
  intro n3
  induction n3 with
  | zero =>
    intro x1 μ2 H locs ls hf h hl
    have hf : (none : gR) = some r := hf
    cases hf
  | succ n3 ih =>
    intro x1 μ2 H locs ls hf h hl
    rw [fX2_layBack_L40] at hf
    refine lv_iload_n X.hx X.hb dX2_layBack_40 rfl (lv_at hl 3 rfl) ?_
    refine lv_aload_n X.hx X.hb dX2_layBack_41 rfl (lv_at hl 0 rfl) ?_
    refine r_getI X h (ci := 2) (k := 11) (C := RX2) (T := TX2) (N := 36) rfl in_X2 (by decide) q1070 rfl dX2_layBack_42 hf (fun x4 hf => ?_)
    refine lv_icmp_ge (tgt := 98) X.hx X.hb dX2_layBack_45 (by decide) (fun hc => ?_) (fun hc => ?_)
    · replace hf := gif_t hf hc
      clear hc
      exact r_rv X h hr hlk ((by first | exact Nat.le_of_ble_eq_true rfl | omega | (dsimp only; omega))) ((by first | exact Nat.le_of_ble_eq_true rfl | omega | (dsimp only; omega))) dX2_layBack_98 hf
    · replace hf := gif_f hf hc
      clear hc
      refine lv_aload_n X.hx X.hb dX2_layBack_48 rfl (lv_at hl 0 rfl) ?_
      refine lv_iconst (v := 1) X.hx X.hb dX2_layBack_49 (by decide) ?_
      refine lv_iload_n X.hx X.hb dX2_layBack_50 rfl (lv_at hl 1 rfl) ?_
      refine lv_iadd X.hx X.hb dX2_layBack_51 ?_
      refine lv_iload_n X.hx X.hb dX2_layBack_52 rfl (lv_at hl 3 rfl) ?_
      refine r_cVI (As := [.int (1 + a1), .int x1]) (rest := []) (C := RX2) (T := TX2) (N := 36) X h hf (fun res hres => wX2_canPlay l Γ ad _ b0 (1 + a1) x1 res hres) rfl (cwV 2 X.hts (lw_V q1293 q1295 qs50 q84 q1296) rfl rfl rfl (by decide +kernel) ⟨(by first | exact Nat.le_of_ble_eq_true rfl | omega | (dsimp only; omega)), (by first | exact Nat.le_of_ble_eq_true rfl | omega | (dsimp only; omega))⟩) rfl ⟨hl.1, Nat.le_of_ble_eq_true rfl, (by first | exact Nat.le_of_ble_eq_true rfl | omega | (dsimp only; omega)), (by first | exact Nat.le_of_ble_eq_true rfl | omega | (dsimp only; omega))⟩ rfl dX2_layBack_53 (fun x5 μ6 H locs hf h => ?_)
      refine r_jn hf (fun j8 ej8 hf => ?_)
      have hj8 : ∀  (μ7 : gM) (H : Heap) (locs : List Loc) (ls : Array Slot), j8  μ7 = some r → gWd Γ A nz ad μ7 s.heap H locs → lv_has ls 4 [(0, .ref (ad b0)), (1, .int a1), (2, .int a2), (3, .int x1)] → W p l e ({ frames := 3 + (dd + 1), cells := 0, slots := 0, locals := 70 + (dd + 1) * 23 } : Room) s m args below meth c H locs 0 0 (MQ below (gQ0 Γ ad nz r A) args s 0 0 A) (F0 m 92 ls []) := by
        intro μ7 H locs ls hf h hl
        rw [ej8] at hf
        refine r_nmk hf (fun x9 ex hf => ?_)
        refine lv_iinc (v := x9) (lv' := [(3, .int x9), (0, .ref (ad b0)), (1, .int a1), (2, .int a2)]) X.hx X.hb dX2_layBack_92 hl (k := 3) rfl (by rw [ex]; rfl) (by decide) rfl (fun ls hl => ?_)
        clear ex
        refine lv_goto (tgt := 40) X.hx X.hb dX2_layBack_95 (by decide) ?_
        exact ih _ _ _ _ _ hf h (lv_sub hl [1, 2, 3, 0] rfl)
      clear ej8
      refine lv_if_eq (tgt := 92) X.hx X.hb dX2_layBack_56 (by decide) (fun hc => ?_) (fun hc => ?_)
      · replace hf := gif_t hf hc
        clear hc
        exact hj8 _ _ _ _ hf h (lv_sub hl [0, 1, 2, 3] rfl)
      · replace hf := gif_f hf hc
        clear hc
        refine lv_aload_n X.hx X.hb dX2_layBack_59 rfl (lv_at hl 0 rfl) ?_
        refine lv_iconst (v := 1) X.hx X.hb dX2_layBack_60 (by decide) ?_
        refine lv_iload_n X.hx X.hb dX2_layBack_61 rfl (lv_at hl 1 rfl) ?_
        refine lv_iadd X.hx X.hb dX2_layBack_62 ?_
        refine lv_iconst (v := 2) X.hx X.hb dX2_layBack_63 (by decide) ?_
        refine lv_iload_n X.hx X.hb dX2_layBack_64 rfl (lv_at hl 1 rfl) ?_
        refine lv_iadd X.hx X.hb dX2_layBack_65 ?_
        refine r_cVV (As := [.int (1 + a1), .int (2 + a1)]) (rest := []) (C := RX2) (T := TX2) (N := 36) X h hf (fun res hres => wX2_copyTo l Γ ad _ b0 (1 + a1) (2 + a1) res hres) rfl (cwV 2 X.hts (lw_V q1398 q1400 qs63 q84 q1401) rfl rfl rfl (by decide +kernel) ⟨(by first | exact Nat.le_of_ble_eq_true rfl | omega | (dsimp only; omega)), (by first | exact Nat.le_of_ble_eq_true rfl | omega | (dsimp only; omega))⟩) rfl ⟨hl.1, Nat.le_of_ble_eq_true rfl, (by first | exact Nat.le_of_ble_eq_true rfl | omega | (dsimp only; omega)), (by first | exact Nat.le_of_ble_eq_true rfl | omega | (dsimp only; omega))⟩ rfl dX2_layBack_66 (fun μ10 H locs hf h => ?_)
        refine lv_aload_n X.hx X.hb dX2_layBack_69 rfl (lv_at hl 0 rfl) ?_
        refine lv_iconst (v := 2) X.hx X.hb dX2_layBack_70 (by decide) ?_
        refine lv_iload_n X.hx X.hb dX2_layBack_71 rfl (lv_at hl 1 rfl) ?_
        refine lv_iadd X.hx X.hb dX2_layBack_72 ?_
        refine lv_iload_n X.hx X.hb dX2_layBack_73 rfl (lv_at hl 3 rfl) ?_
        refine r_cVV (As := [.int (2 + a1), .int x1]) (rest := []) (C := RX2) (T := TX2) (N := 36) X h hf (fun res hres => wX2_plays l Γ ad _ b0 (2 + a1) x1 res hres) rfl (cwV 2 X.hts (lw_V q1330 q1332 qs54 q84 q1333) rfl rfl rfl (by decide +kernel) ⟨(by first | exact Nat.le_of_ble_eq_true rfl | omega | (dsimp only; omega)), (by first | exact Nat.le_of_ble_eq_true rfl | omega | (dsimp only; omega))⟩) rfl ⟨hl.1, Nat.le_of_ble_eq_true rfl, (by first | exact Nat.le_of_ble_eq_true rfl | omega | (dsimp only; omega)), (by first | exact Nat.le_of_ble_eq_true rfl | omega | (dsimp only; omega))⟩ rfl dX2_layBack_74 (fun μ11 H locs hf h => ?_)
        refine lv_aload_n X.hx X.hb dX2_layBack_77 rfl (lv_at hl 0 rfl) ?_
        refine r_getP X h (ci := 2) (k := 28) (C := RX2) (T := TX2) (N := 36) rfl in_X2 (by decide) q1087 rfl dX2_layBack_78 hf (fun i12 hf => ?_)
        refine lv_iload_n X.hx X.hb dX2_layBack_81 rfl (lv_at hl 1 rfl) ?_
        refine lv_iload_n X.hx X.hb dX2_layBack_82 rfl (lv_at hl 3 rfl) ?_
        refine r_iast X h dX2_layBack_83 hf (fun μ13 H locs hf h => ?_)
        refine lv_aload_n X.hx X.hb dX2_layBack_84 rfl (lv_at hl 0 rfl) ?_
        refine lv_iload_n X.hx X.hb dX2_layBack_85 rfl (lv_at hl 1 rfl) ?_
        refine lv_iconst (v := 1) X.hx X.hb dX2_layBack_86 (by decide) ?_
        refine lv_iadd X.hx X.hb dX2_layBack_87 ?_
        refine lv_iload_n X.hx X.hb dX2_layBack_88 rfl (lv_at hl 2 rfl) ?_
        refine r_cVV (As := [.int (a1 + 1), .int a2]) (rest := []) (C := RX2) (T := TX2) (N := 36) X h hf (fun res hres => hrec ad _ b0 (a1 + 1) a2 res hres) rfl (cwV 2 X.hts (lw_V q1469 q1471 qs72 q84 q1472) rfl rfl rfl (by decide +kernel) ⟨(by first | exact Nat.le_of_ble_eq_true rfl | omega | (dsimp only; omega)), (by first | exact Nat.le_of_ble_eq_true rfl | omega | (dsimp only; omega))⟩) rfl ⟨hl.1, Nat.le_of_ble_eq_true rfl, (by first | exact Nat.le_of_ble_eq_true rfl | omega | (dsimp only; omega)), (by first | exact Nat.le_of_ble_eq_true rfl | omega | (dsimp only; omega))⟩ rfl dX2_layBack_89 (fun μ14 H locs hf h => ?_)
        exact hj8 _ _ _ _ hf h (lv_sub hl [0, 1, 2, 3] rfl)
def fX2_layBack_B (rec : gM → Nat → Int32 → Int32 → gR) (μ0 : gM) (b0 : Nat) (a1 : Int32) (a2 : Int32) : gR := if a1 = a2 then (gis μ0 b0 2 <| cI (fX2_isNow μ0 b0 (1 + a1)) fun x15 μ16 => if x15 = 0 then (some (none, μ16)) else (gI (gfld μ16 b0 2 32) fun x17 => gjn (fun  (μ18 : gM) => gI (gfld μ18 b0 2 32) fun x20 => gpf μ18 b0 2 32 (.int (x20 + 1)) fun μ21 => some (none, μ21)) fun j19 => if x17 = 0 then (gis μ16 b0 2 <| cV (fX2_takeTried μ16 b0 a2) fun μ22 => j19 μ22) else (j19 μ16))) else (fX2_layBack_L40 rec b0 a1 a2 10000 0 μ0)
set_option maxHeartbeats 4000000 in
theorem wX2_layBack_B (l : Launch) (Γ : gG) (dd : Nat) (rec : gM → Nat → Int32 → Int32 → gR) (hrec : ∀ (ad : Nat → Nat) (μ : gM) (b0 : Nat) (a1 : Int32) (a2 : Int32) (r : Option Value × gM), rec μ b0 a1 a2 = some r → gMt0 l Γ yX2_layBack (ws_ yX2_layBack cX2_layBack 4 none) ({ frames := 3 + dd, cells := 0, slots := 0, locals := 70 + dd * 23 } : Room) 0 0 ad μ [.ref (ad b0), .int a1, .int a2] r) (ad : Nat → Nat) (μ0 : gM) (b0 : Nat) (a1 : Int32) (a2 : Int32) (r : Option Value × gM) (hf : fX2_layBack_B rec μ0 b0 a1 a2 = some r) : gMt0 l Γ yX2_layBack (ws_ yX2_layBack cX2_layBack 4 none) ({ frames := 3 + (dd + 1), cells := 0, slots := 0, locals := 70 + (dd + 1) * 23 } : Room) 0 0 ad μ0 [.ref (ad b0), .int a1, .int a2] r := by
  intro sz
  refine g_start (maxL := 4) (ret := none) (by decide) rfl g_all (Nat.le_of_ble_eq_true rfl) ?_
  intro p e s m below meth c ls hr hlk hnm X h hl
  generalize gA ad μ0 sz = A at X h ⊢
  generalize ([.ref (ad b0), .int a1, .int a2] : List Value).toArray = args at X ⊢
  have X : gX p m c cX2_layBack 4 s args "SandPianoModel" Γ A := X
  have hl : lv_has ls 4 [(0, .ref (ad b0)), (1, .int a1), (2, .int a2)] := hl
  show W p l e ({ frames := 3 + (dd + 1), cells := 0, slots := 0, locals := 70 + (dd + 1) * 23 } : Room) s m args below meth c s.heap [] 0 0 (MQ below (gQ0 Γ ad μ0.1 r A) args s 0 0 A) (F0 m 0 ls [])
  unfold fX2_layBack_B at hf
  refine lv_iload_n X.hx X.hb dX2_layBack_0 rfl (lv_at hl 1 rfl) ?_
  refine lv_iload_n X.hx X.hb dX2_layBack_1 rfl (lv_at hl 2 rfl) ?_
  refine lv_icmp_ne (tgt := 38) X.hx X.hb dX2_layBack_2 (by decide) (fun hc => ?_) (fun hc => ?_)
  · replace hf := gif_f hf hc
    clear hc
    refine lv_iconst (v := 0) X.hx X.hb dX2_layBack_38 (by decide) ?_
    refine lv_istore_n (lv' := [(3, .int 0), (0, .ref (ad b0)), (1, .int a1), (2, .int a2)]) X.hx X.hb dX2_layBack_39 rfl hl (by decide) rfl (fun ls hl => ?_)
    refine wX2_layBack_L40 l _ rec b0 a1 a2 X hr hlk hrec 10000 _ _ _ _ _ hf h (lv_sub hl [1, 2, 3, 0] rfl)
  · replace hf := gif_t hf hc
    clear hc
    refine lv_aload_n X.hx X.hb dX2_layBack_5 rfl (lv_at hl 0 rfl) ?_
    refine lv_iconst (v := 1) X.hx X.hb dX2_layBack_6 (by decide) ?_
    refine lv_iload_n X.hx X.hb dX2_layBack_7 rfl (lv_at hl 1 rfl) ?_
    refine lv_iadd X.hx X.hb dX2_layBack_8 ?_
    refine r_cVI (As := [.int (1 + a1)]) (rest := []) (C := RX2) (T := TX2) (N := 36) X h hf (fun res hres => wX2_isNow l Γ ad _ b0 (1 + a1) res hres) rfl (cwV 1 X.hts (lw_V q1473 q1475 qs73 q84 q1476) rfl rfl rfl (by decide +kernel) ⟨(by first | exact Nat.le_of_ble_eq_true rfl | omega | (dsimp only; omega)), (by first | exact Nat.le_of_ble_eq_true rfl | omega | (dsimp only; omega))⟩) rfl ⟨hl.1, Nat.le_of_ble_eq_true rfl, (by first | exact Nat.le_of_ble_eq_true rfl | omega | (dsimp only; omega)), (by first | exact Nat.le_of_ble_eq_true rfl | omega | (dsimp only; omega))⟩ rfl dX2_layBack_9 (fun x15 μ16 H locs hf h => ?_)
    refine lv_if_eq (tgt := 37) X.hx X.hb dX2_layBack_12 (by decide) (fun hc => ?_) (fun hc => ?_)
    · replace hf := gif_t hf hc
      clear hc
      exact r_rv X h hr hlk ((by first | exact Nat.le_of_ble_eq_true rfl | omega | (dsimp only; omega))) ((by first | exact Nat.le_of_ble_eq_true rfl | omega | (dsimp only; omega))) dX2_layBack_37 hf
    · replace hf := gif_f hf hc
      clear hc
      refine lv_aload_n X.hx X.hb dX2_layBack_15 rfl (lv_at hl 0 rfl) ?_
      refine r_getI X h (ci := 2) (k := 32) (C := RX2) (T := TX2) (N := 36) rfl in_X2 (by decide) q1091 rfl dX2_layBack_16 hf (fun x17 hf => ?_)
      refine r_jn hf (fun j19 ej19 hf => ?_)
      have hj19 : ∀  (μ18 : gM) (H : Heap) (locs : List Loc) (ls : Array Slot), j19  μ18 = some r → gWd Γ A μ0.1 ad μ18 s.heap H locs → lv_has ls 4 [(0, .ref (ad b0))] → W p l e ({ frames := 3 + (dd + 1), cells := 0, slots := 0, locals := 70 + (dd + 1) * 23 } : Room) s m args below meth c H locs 0 0 (MQ below (gQ0 Γ ad μ0.1 r A) args s 0 0 A) (F0 m 27 ls []) := by
        intro μ18 H locs ls hf h hl
        rw [ej19] at hf
        refine lv_aload_n X.hx X.hb dX2_layBack_27 rfl (lv_at hl 0 rfl) ?_
        refine lv_dup X.hx X.hb dX2_layBack_28 rfl ?_
        refine r_getI X h (ci := 2) (k := 32) (C := RX2) (T := TX2) (N := 36) rfl in_X2 (by decide) q1091 rfl dX2_layBack_29 hf (fun x20 hf => ?_)
        refine lv_iconst (v := 1) X.hx X.hb dX2_layBack_32 (by decide) ?_
        refine lv_iadd X.hx X.hb dX2_layBack_33 ?_
        refine r_put X h (ci := 2) (k := 32) (C := RX2) (T := TX2) (N := 36) (ty0 := tyX2) (ty := .int) (v := .int (x20 + 1)) rfl in_X2 tyX2_ok nmX2 (by decide) q1091 rfl rfl (by decide +kernel) rfl rfl (fun j hj => by cases hj) dX2_layBack_34 hf (fun μ21 H locs hf h => ?_)
        exact r_rv X h hr hlk ((by first | exact Nat.le_of_ble_eq_true rfl | omega | (dsimp only; omega))) ((by first | exact Nat.le_of_ble_eq_true rfl | omega | (dsimp only; omega))) dX2_layBack_37 hf
      clear ej19
      refine lv_if_ne (tgt := 27) X.hx X.hb dX2_layBack_19 (by decide) (fun hc => ?_) (fun hc => ?_)
      · replace hf := gif_f hf hc
        clear hc
        exact hj19 _ _ _ _ hf h (lv_sub hl [0] rfl)
      · replace hf := gif_t hf hc
        clear hc
        refine lv_aload_n X.hx X.hb dX2_layBack_22 rfl (lv_at hl 0 rfl) ?_
        refine lv_iload_n X.hx X.hb dX2_layBack_23 rfl (lv_at hl 2 rfl) ?_
        refine r_cVV (As := [.int a2]) (rest := []) (C := RX2) (T := TX2) (N := 36) X h hf (fun res hres => wX2_takeTried l Γ ad _ b0 a2 res hres) rfl (cwV 1 X.hts (lw_V q1438 q1440 qs68 q84 q1441) rfl rfl rfl (by decide +kernel) ⟨(by first | exact Nat.le_of_ble_eq_true rfl | omega | (dsimp only; omega)), (by first | exact Nat.le_of_ble_eq_true rfl | omega | (dsimp only; omega))⟩) rfl ⟨hl.1, Nat.le_of_ble_eq_true rfl, (by first | exact Nat.le_of_ble_eq_true rfl | omega | (dsimp only; omega)), (by first | exact Nat.le_of_ble_eq_true rfl | omega | (dsimp only; omega))⟩ rfl dX2_layBack_24 (fun μ22 H locs hf h => ?_)
        exact hj19 _ _ _ _ hf h (lv_sub hl [0] rfl)
def fX2_layBack : Nat → gM → Nat → Int32 → Int32 → gR
  | 0, _, _, _, _ => none
  | d + 1, μ0, b0, a1, a2 => fX2_layBack_B (fX2_layBack d) μ0 b0 a1 a2
theorem wX2_layBack (l : Launch) (Γ : gG) : ∀ (dd : Nat) (ad : Nat → Nat) (μ0 : gM) (b0 : Nat) (a1 : Int32) (a2 : Int32) (r : Option Value × gM), fX2_layBack dd μ0 b0 a1 a2 = some r → gMt0 l Γ yX2_layBack (ws_ yX2_layBack cX2_layBack 4 none) ({ frames := 3 + dd, cells := 0, slots := 0, locals := 70 + dd * 23 } : Room) 0 0 ad μ0 [.ref (ad b0), .int a1, .int a2] r := by
  intro dd
  induction dd with
  | zero =>
    intro ad μ0 b0 a1 a2 r hf
    have hf : (none : gR) = some r := hf
    cases hf
  | succ dd ih =>
    intro ad μ0 b0 a1 a2 r hf
    exact wX2_layBack_B l Γ dd (fX2_layBack dd) ih ad μ0 b0 a1 a2 r hf
/-! X2_layRow -/
def fX2_layRow_L10 (b0 : Nat) (a1 : Int32) (b2 : Nat) (a3 : Int32) : Nat → Int32 → gM → gR
  | 0, _, _ => none
  | n5 + 1, x3, μ4 => if 40 ≤ x3 then (some (none, μ4)) else (gP (gfld μ4 b0 2 6) fun i6 => gjn (fun (x7 : Int32) (μ8 : gM) => gsI μ8 0 i6 ((40 * a1) + x3) x7 fun μ10 => gnm (x3 + 1) fun x11 => fX2_layRow_L10 b0 a1 b2 a3 n5 x11 μ10) fun j9 => if a3 ≤ x3 then (j9 0 μ4) else (gaI μ4 0 b2 x3 fun x12 => j9 x12 μ4))
set_option maxHeartbeats 4000000 in
theorem wX2_layRow_L10 {p : Program} {e : Env} {s : State} {m : MethodId} {args : Array Value} {below : List Frame} {meth : Method} {c : Code} {Γ : gG} {A : Nat → Prop} {nz : Nat} {ad : Nat → Nat} {r : Option Value × gM} (l : Launch) (b0 : Nat) (a1 : Int32) (b2 : Nat) (a3 : Int32) (X : gX p m c cX2_layRow 5 s args "SandPianoModel" Γ A) (hr : meth.sig.returnType = none) (hlk : meth.locks = false) : ∀ (n5 : Nat) (x3 : Int32) (μ4 : gM) (H : Heap) (locs : List Loc) (ls : Array Slot), fX2_layRow_L10 b0 a1 b2 a3 n5 x3 μ4 = some r → gWd Γ A nz ad μ4 s.heap H locs → lv_has ls 5 [(0, .ref (ad b0)), (1, .int a1), (2, .ref (ad b2)), (3, .int a3), (4, .int x3)] → W p l e ({ frames := 0, cells := 0, slots := 0, locals := 0 } : Room) s m args below meth c H locs 0 0 (MQ below (gQ0 Γ ad nz r A) args s 0 0 A) (F0 m 10 ls []) := by
  intro n5
  induction n5 with
  | zero =>
    intro x3 μ4 H locs ls hf h hl
    have hf : (none : gR) = some r := hf
    cases hf
  | succ n5 ih =>
    intro x3 μ4 H locs ls hf h hl
    rw [fX2_layRow_L10] at hf
    refine lv_iload X.hx X.hb dX2_layRow_10 (lv_at hl 4 rfl) ?_
    refine lv_bipush (v := 40) X.hx X.hb dX2_layRow_12 (by decide) ?_
    refine lv_icmp_ge (tgt := 49) X.hx X.hb dX2_layRow_14 (by decide) (fun hc => ?_) (fun hc => ?_)
    · replace hf := gif_t hf hc
      clear hc
      exact r_rv X h hr hlk (Nat.le_of_ble_eq_true rfl) (Nat.le_of_ble_eq_true rfl) dX2_layRow_49 hf
    · replace hf := gif_f hf hc
      clear hc
      refine lv_aload_n X.hx X.hb dX2_layRow_17 rfl (lv_at hl 0 rfl) ?_
      refine r_getP X h (ci := 2) (k := 6) (C := RX2) (T := TX2) (N := 36) rfl in_X2 (by decide) q1065 rfl dX2_layRow_18 hf (fun i6 hf => ?_)
      refine lv_bipush (v := 40) X.hx X.hb dX2_layRow_21 (by decide) ?_
      refine lv_iload_n X.hx X.hb dX2_layRow_23 rfl (lv_at hl 1 rfl) ?_
      refine lv_imul X.hx X.hb dX2_layRow_24 ?_
      refine lv_iload X.hx X.hb dX2_layRow_25 (lv_at hl 4 rfl) ?_
      refine lv_iadd X.hx X.hb dX2_layRow_27 ?_
      refine lv_iload X.hx X.hb dX2_layRow_28 (lv_at hl 4 rfl) ?_
      refine lv_iload_n X.hx X.hb dX2_layRow_30 rfl (lv_at hl 3 rfl) ?_
      refine r_jn hf (fun j9 ej9 hf => ?_)
      have hj9 : ∀ (x7 : Int32) (μ8 : gM) (H : Heap) (locs : List Loc) (ls : Array Slot), j9 x7 μ8 = some r → gWd Γ A nz ad μ8 s.heap H locs → lv_has ls 5 [(0, .ref (ad b0)), (1, .int a1), (2, .ref (ad b2)), (3, .int a3), (4, .int x3)] → W p l e ({ frames := 0, cells := 0, slots := 0, locals := 0 } : Room) s m args below meth c H locs 0 0 (MQ below (gQ0 Γ ad nz r A) args s 0 0 A) (F0 m 42 ls [.int x7, .int ((40 * a1) + x3), .ref (ad i6)]) := by
        intro x7 μ8 H locs ls hf h hl
        rw [ej9] at hf
        refine r_iast X h dX2_layRow_42 hf (fun μ10 H locs hf h => ?_)
        refine r_nmk hf (fun x11 ex hf => ?_)
        refine lv_iinc (v := x11) (lv' := [(4, .int x11), (0, .ref (ad b0)), (1, .int a1), (2, .ref (ad b2)), (3, .int a3)]) X.hx X.hb dX2_layRow_43 hl (k := 4) rfl (by rw [ex]; rfl) (by decide) rfl (fun ls hl => ?_)
        clear ex
        refine lv_goto (tgt := 10) X.hx X.hb dX2_layRow_46 (by decide) ?_
        exact ih _ _ _ _ _ hf h (lv_sub hl [1, 2, 3, 4, 0] rfl)
      clear ej9
      refine lv_icmp_ge (tgt := 41) X.hx X.hb dX2_layRow_31 (by decide) (fun hc => ?_) (fun hc => ?_)
      · replace hf := gif_t hf hc
        clear hc
        refine lv_iconst (v := 0) X.hx X.hb dX2_layRow_41 (by decide) ?_
        exact hj9 _ _ _ _ _ hf h (lv_sub hl [0, 1, 2, 3, 4] rfl)
      · replace hf := gif_f hf hc
        clear hc
        refine lv_aload_n X.hx X.hb dX2_layRow_34 rfl (lv_at hl 2 rfl) ?_
        refine lv_iload X.hx X.hb dX2_layRow_35 (lv_at hl 4 rfl) ?_
        refine r_iald X h dX2_layRow_37 hf (fun x12 hf => ?_)
        refine lv_goto (tgt := 42) X.hx X.hb dX2_layRow_38 (by decide) ?_
        exact hj9 _ _ _ _ _ hf h (lv_sub hl [0, 1, 2, 3, 4] rfl)
def fX2_layRow (μ0 : gM) (b0 : Nat) (a1 : Int32) (b2 : Nat) (a3 : Int32) : gR := gP (gfld μ0 b0 2 5) fun i1 => gsI μ0 0 i1 a1 a3 fun μ2 => fX2_layRow_L10 b0 a1 b2 a3 10000 0 μ2
set_option maxHeartbeats 4000000 in
theorem wX2_layRow (l : Launch) (Γ : gG) (ad : Nat → Nat) (μ0 : gM) (b0 : Nat) (a1 : Int32) (b2 : Nat) (a3 : Int32) (r : Option Value × gM) (hf : fX2_layRow μ0 b0 a1 b2 a3 = some r) : gMt0 l Γ yX2_layRow (ws_ yX2_layRow cX2_layRow 5 none) ({ frames := 0, cells := 0, slots := 0, locals := 0 } : Room) 0 0 ad μ0 [.ref (ad b0), .int a1, .ref (ad b2), .int a3] r := by
  intro sz
  refine g_start (maxL := 5) (ret := none) (by decide) rfl g_all (Nat.le_of_ble_eq_true rfl) ?_
  intro p e s m below meth c ls hr hlk hnm X h hl
  generalize gA ad μ0 sz = A at X h ⊢
  generalize ([.ref (ad b0), .int a1, .ref (ad b2), .int a3] : List Value).toArray = args at X ⊢
  have X : gX p m c cX2_layRow 5 s args "SandPianoModel" Γ A := X
  have hl : lv_has ls 5 [(0, .ref (ad b0)), (1, .int a1), (2, .ref (ad b2)), (3, .int a3)] := hl
  show W p l e ({ frames := 0, cells := 0, slots := 0, locals := 0 } : Room) s m args below meth c s.heap [] 0 0 (MQ below (gQ0 Γ ad μ0.1 r A) args s 0 0 A) (F0 m 0 ls [])
  unfold fX2_layRow at hf
  refine lv_aload_n X.hx X.hb dX2_layRow_0 rfl (lv_at hl 0 rfl) ?_
  refine r_getP X h (ci := 2) (k := 5) (C := RX2) (T := TX2) (N := 36) rfl in_X2 (by decide) q1064 rfl dX2_layRow_1 hf (fun i1 hf => ?_)
  refine lv_iload_n X.hx X.hb dX2_layRow_4 rfl (lv_at hl 1 rfl) ?_
  refine lv_iload_n X.hx X.hb dX2_layRow_5 rfl (lv_at hl 3 rfl) ?_
  refine r_iast X h dX2_layRow_6 hf (fun μ2 H locs hf h => ?_)
  refine lv_iconst (v := 0) X.hx X.hb dX2_layRow_7 (by decide) ?_
  refine lv_istore (lv' := [(4, .int 0), (0, .ref (ad b0)), (1, .int a1), (2, .ref (ad b2)), (3, .int a3)]) X.hx X.hb dX2_layRow_8 hl (by decide) rfl (fun ls hl => ?_)
  refine wX2_layRow_L10 l b0 a1 b2 a3 X hr hlk 10000 _ _ _ _ _ hf h (lv_sub hl [1, 2, 3, 4, 0] rfl)
