set_option maxRecDepth 100000
/-! X2_count -/
def fX2_count (μ0 : gM) (b0 : Nat) (a1 : Int32) : gR := cI (fX2_in μ0 a1 0 8) fun x1 μ2 => if x1 = 0 then (some (some (.int (-1)), μ2)) else (gis μ2 b0 2 <| cI (fX2_counted μ2 b0 a1) fun x3 μ4 => some (some (.int x3), μ4))
set_option maxHeartbeats 4000000 in
theorem wX2_count (l : Launch) (Γ : gG) (ad : Nat → Nat) (μ0 : gM) (b0 : Nat) (a1 : Int32) (r : Option Value × gM) (hf : fX2_count μ0 b0 a1 = some r) : gMt0 l Γ yX2_count (ws_ yX2_count cX2_count 2 (some .int)) ({ frames := 2, cells := 0, slots := 0, locals := 45 } : Room) 0 0 ad μ0 [.ref (ad b0), .int a1] r := by
  intro sz
  refine g_start (maxL := 2) (ret := (some .int)) (by decide) rfl g_all (Nat.le_of_ble_eq_true rfl) ?_
  intro p e s m below meth c ls hr hlk hnm X h hl
  generalize gA ad μ0 sz = A at X h ⊢
  generalize ([.ref (ad b0), .int a1] : List Value).toArray = args at X ⊢
  have X : gX p m c cX2_count 2 s args "SandPianoModel" Γ A := X
  have hl : lv_has ls 2 [(0, .ref (ad b0)), (1, .int a1)] := hl
  show W p l e ({ frames := 2, cells := 0, slots := 0, locals := 45 } : Room) s m args below meth c s.heap [] 0 0 (MQ below (gQ0 Γ ad μ0.1 r A) args s 0 0 A) (F0 m 0 ls [])
  unfold fX2_count at hf
  refine lv_iload_n X.hx X.hb dX2_count_0 rfl (lv_at hl 1 rfl) ?_
  refine lv_iconst (v := 0) X.hx X.hb dX2_count_1 (by decide) ?_
  refine lv_bipush (v := 8) X.hx X.hb dX2_count_2 (by decide) ?_
  refine r_cSI (As := [.int a1, .int 0, .int 8]) (rest := []) X h hf (fun res hres => wX2_in l Γ ad _ a1 0 8 res hres) (va_cwS 3 X.hts (lw_S q1177 q1178 q84 q1179) rfl rfl rfl (by decide +kernel) ⟨Nat.le_of_ble_eq_true rfl, Nat.le_of_ble_eq_true rfl⟩) rfl ⟨hl.1, Nat.le_of_ble_eq_true rfl, Nat.le_of_ble_eq_true rfl, Nat.le_of_ble_eq_true rfl⟩ rfl dX2_count_4 (fun x1 μ2 H locs hf h => ?_)
  refine lv_if_eq (tgt := 18) X.hx X.hb dX2_count_7 (by decide) (fun hc => ?_) (fun hc => ?_)
  · replace hf := gif_t hf hc
    clear hc
    refine lv_iconst (v := (-1)) X.hx X.hb dX2_count_18 (by decide) ?_
    exact r_ri X h hr hlk (Nat.le_of_ble_eq_true rfl) (Nat.le_of_ble_eq_true rfl) dX2_count_19 hf
  · replace hf := gif_f hf hc
    clear hc
    refine lv_aload_n X.hx X.hb dX2_count_10 rfl (lv_at hl 0 rfl) ?_
    refine lv_iload_n X.hx X.hb dX2_count_11 rfl (lv_at hl 1 rfl) ?_
    refine r_cVI (As := [.int a1]) (rest := []) (C := RX2) (T := TX2) (N := 36) X h hf (fun res hres => wX2_counted l Γ ad _ b0 a1 res hres) rfl (cwV 1 X.hts (lw_V q1524 q1526 qs78 q84 q1527) rfl rfl rfl (by decide +kernel) ⟨Nat.le_of_ble_eq_true rfl, Nat.le_of_ble_eq_true rfl⟩) rfl ⟨hl.1, Nat.le_of_ble_eq_true rfl, Nat.le_of_ble_eq_true rfl, Nat.le_of_ble_eq_true rfl⟩ rfl dX2_count_12 (fun x3 μ4 H locs hf h => ?_)
    refine lv_goto (tgt := 19) X.hx X.hb dX2_count_15 (by decide) ?_
    exact r_ri X h hr hlk (Nat.le_of_ble_eq_true rfl) (Nat.le_of_ble_eq_true rfl) dX2_count_19 hf
/-! X2_remember -/
def fX2_remember_L2 (b0 : Nat) (kx34 : gM → gR) : Nat → Int32 → gM → gR
  | 0, _, _ => none
  | n3 + 1, x1, μ2 => if 9 ≤ x1 then (kx34 μ2) else (gP (gfld μ2 b0 2 22) fun i4 => gI (gfld μ2 b0 2 21) fun x5 => gis μ2 b0 2 <| cI (fX2_v μ2 b0 0 x1) fun x6 μ7 => gsI μ7 0 i4 ((9 * x5) + x1) x6 fun μ8 => gnm (x1 + 1) fun x9 => fX2_remember_L2 b0 kx34 n3 x9 μ8)
set_option maxHeartbeats 4000000 in
theorem wX2_remember_L2 {p : Program} {e : Env} {s : State} {m : MethodId} {args : Array Value} {below : List Frame} {meth : Method} {c : Code} {Γ : gG} {A : Nat → Prop} {nz : Nat} {ad : Nat → Nat} {r : Option Value × gM} (l : Launch) (b0 : Nat) (kx34 : gM → gR) (X : gX p m c cX2_remember 2 s args "SandPianoModel" Γ A) (hr : meth.sig.returnType = none) (hlk : meth.locks = false) (hk34 : ∀  (μ : gM) (H : Heap) (locs : List Loc) (ls : Array Slot), kx34  μ = some r → gWd Γ A nz ad μ s.heap H locs → lv_has ls 2 [(0, .ref (ad b0))] → W p l e ({ frames := 1, cells := 0, slots := 0, locals := 22 } : Room) s m args below meth c H locs 0 0 (MQ below (gQ0 Γ ad nz r A) args s 0 0 A) (F0 m 34 ls [])) : ∀ (n3 : Nat) (x1 : Int32) (μ2 : gM) (H : Heap) (locs : List Loc) (ls : Array Slot), fX2_remember_L2 b0 kx34 n3 x1 μ2 = some r → gWd Γ A nz ad μ2 s.heap H locs → lv_has ls 2 [(0, .ref (ad b0)), (1, .int x1)] → W p l e ({ frames := 1, cells := 0, slots := 0, locals := 22 } : Room) s m args below meth c H locs 0 0 (MQ below (gQ0 Γ ad nz r A) args s 0 0 A) (F0 m 2 ls []) := by
  intro n3
  induction n3 with
  | zero =>
    intro x1 μ2 H locs ls hf h hl
    have hf : (none : gR) = some r := hf
    cases hf
  | succ n3 ih =>
    intro x1 μ2 H locs ls hf h hl
    rw [fX2_remember_L2] at hf
    refine lv_iload_n X.hx X.hb dX2_remember_2 rfl (lv_at hl 1 rfl) ?_
    refine lv_bipush (v := 9) X.hx X.hb dX2_remember_3 (by decide) ?_
    refine lv_icmp_ge (tgt := 34) X.hx X.hb dX2_remember_5 (by decide) (fun hc => ?_) (fun hc => ?_)
    · replace hf := gif_t hf hc
      clear hc
      exact hk34 _ _ _ _ hf h (lv_sub hl [0] rfl)
    · replace hf := gif_f hf hc
      clear hc
      refine lv_aload_n X.hx X.hb dX2_remember_8 rfl (lv_at hl 0 rfl) ?_
      refine r_getP X h (ci := 2) (k := 22) (C := RX2) (T := TX2) (N := 36) rfl in_X2 (by decide) q1081 rfl dX2_remember_9 hf (fun i4 hf => ?_)
      refine lv_bipush (v := 9) X.hx X.hb dX2_remember_12 (by decide) ?_
      refine lv_aload_n X.hx X.hb dX2_remember_14 rfl (lv_at hl 0 rfl) ?_
      refine r_getI X h (ci := 2) (k := 21) (C := RX2) (T := TX2) (N := 36) rfl in_X2 (by decide) q1080 rfl dX2_remember_15 hf (fun x5 hf => ?_)
      refine lv_imul X.hx X.hb dX2_remember_18 ?_
      refine lv_iload_n X.hx X.hb dX2_remember_19 rfl (lv_at hl 1 rfl) ?_
      refine lv_iadd X.hx X.hb dX2_remember_20 ?_
      refine lv_aload_n X.hx X.hb dX2_remember_21 rfl (lv_at hl 0 rfl) ?_
      refine lv_iconst (v := 0) X.hx X.hb dX2_remember_22 (by decide) ?_
      refine lv_iload_n X.hx X.hb dX2_remember_23 rfl (lv_at hl 1 rfl) ?_
      refine r_cVI (As := [.int 0, .int x1]) (rest := [.int ((9 * x5) + x1), .ref (ad i4)]) (C := RX2) (T := TX2) (N := 36) X h hf (fun res hres => wX2_v l Γ ad _ b0 0 x1 res hres) rfl (cwV 2 X.hts (lw_V q1289 q1291 qs49 q84 q1292) rfl rfl rfl (by decide +kernel) ⟨Nat.le_of_ble_eq_true rfl, Nat.le_of_ble_eq_true rfl⟩) rfl ⟨hl.1, Nat.le_of_ble_eq_true rfl, Nat.le_of_ble_eq_true rfl, Nat.le_of_ble_eq_true rfl⟩ rfl dX2_remember_24 (fun x6 μ7 H locs hf h => ?_)
      refine r_iast X h dX2_remember_27 hf (fun μ8 H locs hf h => ?_)
      refine r_nmk hf (fun x9 ex hf => ?_)
      refine lv_iinc (v := x9) (lv' := [(1, .int x9), (0, .ref (ad b0))]) X.hx X.hb dX2_remember_28 hl (k := 1) rfl (by rw [ex]; rfl) (by decide) rfl (fun ls hl => ?_)
      clear ex
      refine lv_goto (tgt := 2) X.hx X.hb dX2_remember_31 (by decide) ?_
      exact ih _ _ _ _ _ hf h (lv_sub hl [1, 0] rfl)
def fX2_remember (μ0 : gM) (b0 : Nat) : gR := fX2_remember_L2 b0 (fun (μ10 : gM) => gI (gfld μ10 b0 2 21) fun x11 => gpf μ10 b0 2 21 (.int (x11 + 1)) fun μ12 => some (none, μ12)) 10000 0 μ0
set_option maxHeartbeats 4000000 in
theorem wX2_remember (l : Launch) (Γ : gG) (ad : Nat → Nat) (μ0 : gM) (b0 : Nat) (r : Option Value × gM) (hf : fX2_remember μ0 b0 = some r) : gMt0 l Γ yX2_remember (ws_ yX2_remember cX2_remember 2 none) ({ frames := 1, cells := 0, slots := 0, locals := 22 } : Room) 0 0 ad μ0 [.ref (ad b0)] r := by
  intro sz
  refine g_start (maxL := 2) (ret := none) (by decide) rfl g_all (Nat.le_of_ble_eq_true rfl) ?_
  intro p e s m below meth c ls hr hlk hnm X h hl
  generalize gA ad μ0 sz = A at X h ⊢
  generalize ([.ref (ad b0)] : List Value).toArray = args at X ⊢
  have X : gX p m c cX2_remember 2 s args "SandPianoModel" Γ A := X
  have hl : lv_has ls 2 [(0, .ref (ad b0))] := hl
  show W p l e ({ frames := 1, cells := 0, slots := 0, locals := 22 } : Room) s m args below meth c s.heap [] 0 0 (MQ below (gQ0 Γ ad μ0.1 r A) args s 0 0 A) (F0 m 0 ls [])
  unfold fX2_remember at hf
  refine lv_iconst (v := 0) X.hx X.hb dX2_remember_0 (by decide) ?_
  refine lv_istore_n (lv' := [(1, .int 0), (0, .ref (ad b0))]) X.hx X.hb dX2_remember_1 rfl hl (by decide) rfl (fun ls hl => ?_)
  refine wX2_remember_L2 l b0 _ X hr hlk (fun μ10 H locs ls hf h hl => ?_) 10000 _ _ _ _ _ hf h (lv_sub hl [1, 0] rfl)
  refine lv_aload_n X.hx X.hb dX2_remember_34 rfl (lv_at hl 0 rfl) ?_
  refine lv_dup X.hx X.hb dX2_remember_35 rfl ?_
  refine r_getI X h (ci := 2) (k := 21) (C := RX2) (T := TX2) (N := 36) rfl in_X2 (by decide) q1080 rfl dX2_remember_36 hf (fun x11 hf => ?_)
  refine lv_iconst (v := 1) X.hx X.hb dX2_remember_39 (by decide) ?_
  refine lv_iadd X.hx X.hb dX2_remember_40 ?_
  refine r_put X h (ci := 2) (k := 21) (C := RX2) (T := TX2) (N := 36) (ty0 := tyX2) (ty := .int) (v := .int (x11 + 1)) rfl in_X2 tyX2_ok nmX2 (by decide) q1080 rfl rfl (by decide +kernel) rfl rfl (fun j hj => by cases hj) dX2_remember_41 hf (fun μ12 H locs hf h => ?_)
  exact r_rv X h hr hlk (Nat.le_of_ble_eq_true rfl) (Nat.le_of_ble_eq_true rfl) dX2_remember_44 hf
/-! X2_dig -/
def fX2_dig (μ0 : gM) (b0 : Nat) (a1 : Int32) : gR := gis μ0 b0 2 <| cI (fX2_isKey μ0 b0 a1) fun x1 μ2 => if x1 = 0 then (some (some (.int (-1)), μ2)) else (gI (gfld μ2 b0 2 21) fun x3 => if x3 = 60 then (some (some (.int (-2)), μ2)) else (gis μ2 b0 2 <| cV (fX2_remember μ2 b0) fun μ4 => gI (gfld μ4 b0 2 10) fun x5 => gis μ4 b0 2 <| cI (fX2_moves μ4 b0 0 a1 6 x5) fun x6 μ7 => some (some (.int x6), μ7)))
set_option maxHeartbeats 4000000 in
theorem wX2_dig (l : Launch) (Γ : gG) (ad : Nat → Nat) (μ0 : gM) (b0 : Nat) (a1 : Int32) (r : Option Value × gM) (hf : fX2_dig μ0 b0 a1 = some r) : gMt0 l Γ yX2_dig (ws_ yX2_dig cX2_dig 2 (some .int)) ({ frames := 2, cells := 0, slots := 0, locals := 48 } : Room) 0 0 ad μ0 [.ref (ad b0), .int a1] r := by
  intro sz
  refine g_start (maxL := 2) (ret := (some .int)) (by decide) rfl g_all (Nat.le_of_ble_eq_true rfl) ?_
  intro p e s m below meth c ls hr hlk hnm X h hl
  generalize gA ad μ0 sz = A at X h ⊢
  generalize ([.ref (ad b0), .int a1] : List Value).toArray = args at X ⊢
  have X : gX p m c cX2_dig 2 s args "SandPianoModel" Γ A := X
  have hl : lv_has ls 2 [(0, .ref (ad b0)), (1, .int a1)] := hl
  show W p l e ({ frames := 2, cells := 0, slots := 0, locals := 48 } : Room) s m args below meth c s.heap [] 0 0 (MQ below (gQ0 Γ ad μ0.1 r A) args s 0 0 A) (F0 m 0 ls [])
  unfold fX2_dig at hf
  refine lv_aload_n X.hx X.hb dX2_dig_0 rfl (lv_at hl 0 rfl) ?_
  refine lv_iload_n X.hx X.hb dX2_dig_1 rfl (lv_at hl 1 rfl) ?_
  refine r_cVI (As := [.int a1]) (rest := []) (C := RX2) (T := TX2) (N := 36) X h hf (fun res hres => wX2_isKey l Γ ad _ b0 a1 res hres) rfl (cwV 1 X.hts (lw_V q1281 q1283 qs47 q84 q1284) rfl rfl rfl (by decide +kernel) ⟨Nat.le_of_ble_eq_true rfl, Nat.le_of_ble_eq_true rfl⟩) rfl ⟨hl.1, Nat.le_of_ble_eq_true rfl, Nat.le_of_ble_eq_true rfl, Nat.le_of_ble_eq_true rfl⟩ rfl dX2_dig_2 (fun x1 μ2 H locs hf h => ?_)
  refine lv_if_ne (tgt := 10) X.hx X.hb dX2_dig_5 (by decide) (fun hc => ?_) (fun hc => ?_)
  · replace hf := gif_f hf hc
    clear hc
    refine lv_aload_n X.hx X.hb dX2_dig_10 rfl (lv_at hl 0 rfl) ?_
    refine r_getI X h (ci := 2) (k := 21) (C := RX2) (T := TX2) (N := 36) rfl in_X2 (by decide) q1080 rfl dX2_dig_11 hf (fun x3 hf => ?_)
    refine lv_bipush (v := 60) X.hx X.hb dX2_dig_14 (by decide) ?_
    refine lv_icmp_ne (tgt := 22) X.hx X.hb dX2_dig_16 (by decide) (fun hc => ?_) (fun hc => ?_)
    · replace hf := gif_f hf hc
      clear hc
      refine lv_aload_n X.hx X.hb dX2_dig_22 rfl (lv_at hl 0 rfl) ?_
      refine r_cVV (As := []) (rest := []) (C := RX2) (T := TX2) (N := 36) X h hf (fun res hres => wX2_remember l Γ ad _ b0 res hres) rfl (cwV 0 X.hts (lw_V q1326 q1328 qs53 q84 q1329) rfl rfl rfl (by decide +kernel) ⟨Nat.le_of_ble_eq_true rfl, Nat.le_of_ble_eq_true rfl⟩) rfl ⟨hl.1, Nat.le_of_ble_eq_true rfl, Nat.le_of_ble_eq_true rfl, Nat.le_of_ble_eq_true rfl⟩ rfl dX2_dig_23 (fun μ4 H locs hf h => ?_)
      refine lv_aload_n X.hx X.hb dX2_dig_26 rfl (lv_at hl 0 rfl) ?_
      refine lv_iconst (v := 0) X.hx X.hb dX2_dig_27 (by decide) ?_
      refine lv_iload_n X.hx X.hb dX2_dig_28 rfl (lv_at hl 1 rfl) ?_
      refine lv_bipush (v := 6) X.hx X.hb dX2_dig_29 (by decide) ?_
      refine lv_aload_n X.hx X.hb dX2_dig_31 rfl (lv_at hl 0 rfl) ?_
      refine r_getI X h (ci := 2) (k := 10) (C := RX2) (T := TX2) (N := 36) rfl in_X2 (by decide) q1069 rfl dX2_dig_32 hf (fun x5 hf => ?_)
      refine r_cVI (As := [.int 0, .int a1, .int 6, .int x5]) (rest := []) (C := RX2) (T := TX2) (N := 36) X h hf (fun res hres => wX2_moves l Γ ad _ b0 0 a1 6 x5 res hres) rfl (cwV 4 X.hts (lw_V q1338 q1340 qs56 q84 q1341) rfl rfl rfl (by decide +kernel) ⟨Nat.le_of_ble_eq_true rfl, Nat.le_of_ble_eq_true rfl⟩) rfl ⟨hl.1, Nat.le_of_ble_eq_true rfl, Nat.le_of_ble_eq_true rfl, Nat.le_of_ble_eq_true rfl⟩ rfl dX2_dig_35 (fun x6 μ7 H locs hf h => ?_)
      exact r_ri X h hr hlk (Nat.le_of_ble_eq_true rfl) (Nat.le_of_ble_eq_true rfl) dX2_dig_38 hf
    · replace hf := gif_t hf hc
      clear hc
      refine lv_bipush (v := (-2)) X.hx X.hb dX2_dig_19 (by decide) ?_
      exact r_ri X h hr hlk (Nat.le_of_ble_eq_true rfl) (Nat.le_of_ble_eq_true rfl) dX2_dig_21 hf
  · replace hf := gif_t hf hc
    clear hc
    refine lv_iconst (v := (-1)) X.hx X.hb dX2_dig_8 (by decide) ?_
    exact r_ri X h hr hlk (Nat.le_of_ble_eq_true rfl) (Nat.le_of_ble_eq_true rfl) dX2_dig_9 hf
/-! X2_mix -/
def fX2_mix (μ0 : gM) (b0 : Nat) (a1 : Int64) : gR := gJ (gfld μ0 b0 2 35) fun x1 => gpf μ0 b0 2 35 (.long ((31 * x1) + a1)) fun μ2 => some (none, μ2)
set_option maxHeartbeats 4000000 in
theorem wX2_mix (l : Launch) (Γ : gG) (ad : Nat → Nat) (μ0 : gM) (b0 : Nat) (a1 : Int64) (r : Option Value × gM) (hf : fX2_mix μ0 b0 a1 = some r) : gMt0 l Γ yX2_mix (ws_ yX2_mix cX2_mix 3 none) ({ frames := 0, cells := 0, slots := 0, locals := 0 } : Room) 0 0 ad μ0 [.ref (ad b0), .long a1] r := by
  intro sz
  refine g_start (maxL := 3) (ret := none) (by decide) rfl g_all (Nat.le_of_ble_eq_true rfl) ?_
  intro p e s m below meth c ls hr hlk hnm X h hl
  generalize gA ad μ0 sz = A at X h ⊢
  generalize ([.ref (ad b0), .long a1] : List Value).toArray = args at X ⊢
  have X : gX p m c cX2_mix 3 s args "SandPianoModel" Γ A := X
  have hl : lv_has ls 3 [(0, .ref (ad b0)), (1, .long a1)] := hl
  show W p l e ({ frames := 0, cells := 0, slots := 0, locals := 0 } : Room) s m args below meth c s.heap [] 0 0 (MQ below (gQ0 Γ ad μ0.1 r A) args s 0 0 A) (F0 m 0 ls [])
  unfold fX2_mix at hf
  refine lv_aload_n X.hx X.hb dX2_mix_0 rfl (lv_at hl 0 rfl) ?_
  refine lv_ldc2 (v := 31) X.hx X.hb X.hown (X.hts _ q1537) dX2_mix_1 ?_
  refine lv_aload_n X.hx X.hb dX2_mix_4 rfl (lv_at hl 0 rfl) ?_
  refine r_getJ X h (ci := 2) (k := 35) (C := RX2) (T := TX2) (N := 36) rfl in_X2 (by decide) q1094 rfl dX2_mix_5 hf (fun x1 hf => ?_)
  refine lv_lmul X.hx X.hb dX2_mix_8 ?_
  refine lv_lload_n X.hx X.hb dX2_mix_9 rfl (lv_at hl 1 rfl) ?_
  refine lv_ladd X.hx X.hb dX2_mix_10 ?_
  refine r_put X h (ci := 2) (k := 35) (C := RX2) (T := TX2) (N := 36) (ty0 := tyX2) (ty := .long) (v := .long ((31 * x1) + a1)) rfl in_X2 tyX2_ok nmX2 (by decide) q1094 rfl rfl (by decide +kernel) rfl rfl (fun j hj => by cases hj) dX2_mix_11 hf (fun μ2 H locs hf h => ?_)
  exact r_rv X h hr hlk (Nat.le_of_ble_eq_true rfl) (Nat.le_of_ble_eq_true rfl) dX2_mix_14 hf
/-! X2_keyTells -/
def fX2_keyTells (μ0 : gM) (b0 : Nat) (a1 : Int32) (a2 : Int32) : gR := if a2 = 0 then (gP (gfld μ0 b0 2 12) fun i1 => gaI μ0 0 i1 a1 fun x2 => some (some (.int x2), μ0)) else if a2 = 1 then (gP (gfld μ0 b0 2 13) fun i3 => gaI μ0 0 i3 a1 fun x4 => some (some (.int x4), μ0)) else if a2 = 2 then (gis μ0 b0 2 <| cI (fX2_v μ0 b0 0 a1) fun x5 μ6 => some (some (.int x5), μ6)) else if a2 = 3 then (gP (gfld μ0 b0 2 14) fun i7 => gaI μ0 0 i7 a1 fun x8 => some (some (.int x8), μ0)) else (gis μ0 b0 2 <| cI (fX2_canPlay μ0 b0 0 a1) fun x9 μ10 => if x9 = 0 then (some (some (.int 0), μ10)) else (some (some (.int 1), μ10)))
set_option maxHeartbeats 4000000 in
theorem wX2_keyTells (l : Launch) (Γ : gG) (ad : Nat → Nat) (μ0 : gM) (b0 : Nat) (a1 : Int32) (a2 : Int32) (r : Option Value × gM) (hf : fX2_keyTells μ0 b0 a1 a2 = some r) : gMt0 l Γ yX2_keyTells (ws_ yX2_keyTells cX2_keyTells 3 (some .int)) ({ frames := 2, cells := 0, slots := 0, locals := 45 } : Room) 0 0 ad μ0 [.ref (ad b0), .int a1, .int a2] r := by
  intro sz
  refine g_start (maxL := 3) (ret := (some .int)) (by decide) rfl g_all (Nat.le_of_ble_eq_true rfl) ?_
  intro p e s m below meth c ls hr hlk hnm X h hl
  generalize gA ad μ0 sz = A at X h ⊢
  generalize ([.ref (ad b0), .int a1, .int a2] : List Value).toArray = args at X ⊢
  have X : gX p m c cX2_keyTells 3 s args "SandPianoModel" Γ A := X
  have hl : lv_has ls 3 [(0, .ref (ad b0)), (1, .int a1), (2, .int a2)] := hl
  show W p l e ({ frames := 2, cells := 0, slots := 0, locals := 45 } : Room) s m args below meth c s.heap [] 0 0 (MQ below (gQ0 Γ ad μ0.1 r A) args s 0 0 A) (F0 m 0 ls [])
  unfold fX2_keyTells at hf
  refine lv_iload_n X.hx X.hb dX2_keyTells_0 rfl (lv_at hl 2 rfl) ?_
  by_cases hc0 : a2 = 0
  · replace hf := gif_t hf hc0
    refine lv_tableIn (tgt := 32) X.hx X.hb dX2_keyTells_1 (by rw [hc0]; decide) (by rw [hc0]; decide) (by rw [hc0]; rfl) (by decide) ?_
    clear hc0
    refine lv_aload_n X.hx X.hb dX2_keyTells_32 rfl (lv_at hl 0 rfl) ?_
    refine r_getP X h (ci := 2) (k := 12) (C := RX2) (T := TX2) (N := 36) rfl in_X2 (by decide) q1071 rfl dX2_keyTells_33 hf (fun i1 hf => ?_)
    refine lv_iload_n X.hx X.hb dX2_keyTells_36 rfl (lv_at hl 1 rfl) ?_
    refine r_iald X h dX2_keyTells_37 hf (fun x2 hf => ?_)
    exact r_ri X h hr hlk (Nat.le_of_ble_eq_true rfl) (Nat.le_of_ble_eq_true rfl) dX2_keyTells_38 hf
  replace hf := gif_f hf hc0
  by_cases hc1 : a2 = 1
  · replace hf := gif_t hf hc1
    refine lv_tableIn (tgt := 39) X.hx X.hb dX2_keyTells_1 (by rw [hc1]; decide) (by rw [hc1]; decide) (by rw [hc1]; rfl) (by decide) ?_
    clear hc1
    refine lv_aload_n X.hx X.hb dX2_keyTells_39 rfl (lv_at hl 0 rfl) ?_
    refine r_getP X h (ci := 2) (k := 13) (C := RX2) (T := TX2) (N := 36) rfl in_X2 (by decide) q1072 rfl dX2_keyTells_40 hf (fun i3 hf => ?_)
    refine lv_iload_n X.hx X.hb dX2_keyTells_43 rfl (lv_at hl 1 rfl) ?_
    refine r_iald X h dX2_keyTells_44 hf (fun x4 hf => ?_)
    exact r_ri X h hr hlk (Nat.le_of_ble_eq_true rfl) (Nat.le_of_ble_eq_true rfl) dX2_keyTells_45 hf
  replace hf := gif_f hf hc1
  by_cases hc2 : a2 = 2
  · replace hf := gif_t hf hc2
    refine lv_tableIn (tgt := 46) X.hx X.hb dX2_keyTells_1 (by rw [hc2]; decide) (by rw [hc2]; decide) (by rw [hc2]; rfl) (by decide) ?_
    clear hc2
    refine lv_aload_n X.hx X.hb dX2_keyTells_46 rfl (lv_at hl 0 rfl) ?_
    refine lv_iconst (v := 0) X.hx X.hb dX2_keyTells_47 (by decide) ?_
    refine lv_iload_n X.hx X.hb dX2_keyTells_48 rfl (lv_at hl 1 rfl) ?_
    refine r_cVI (As := [.int 0, .int a1]) (rest := []) (C := RX2) (T := TX2) (N := 36) X h hf (fun res hres => wX2_v l Γ ad _ b0 0 a1 res hres) rfl (cwV 2 X.hts (lw_V q1289 q1291 qs49 q84 q1292) rfl rfl rfl (by decide +kernel) ⟨Nat.le_of_ble_eq_true rfl, Nat.le_of_ble_eq_true rfl⟩) rfl ⟨hl.1, Nat.le_of_ble_eq_true rfl, Nat.le_of_ble_eq_true rfl, Nat.le_of_ble_eq_true rfl⟩ rfl dX2_keyTells_49 (fun x5 μ6 H locs hf h => ?_)
    exact r_ri X h hr hlk (Nat.le_of_ble_eq_true rfl) (Nat.le_of_ble_eq_true rfl) dX2_keyTells_52 hf
  replace hf := gif_f hf hc2
  by_cases hc3 : a2 = 3
  · replace hf := gif_t hf hc3
    refine lv_tableIn (tgt := 53) X.hx X.hb dX2_keyTells_1 (by rw [hc3]; decide) (by rw [hc3]; decide) (by rw [hc3]; rfl) (by decide) ?_
    clear hc3
    refine lv_aload_n X.hx X.hb dX2_keyTells_53 rfl (lv_at hl 0 rfl) ?_
    refine r_getP X h (ci := 2) (k := 14) (C := RX2) (T := TX2) (N := 36) rfl in_X2 (by decide) q1073 rfl dX2_keyTells_54 hf (fun i7 hf => ?_)
    refine lv_iload_n X.hx X.hb dX2_keyTells_57 rfl (lv_at hl 1 rfl) ?_
    refine r_iald X h dX2_keyTells_58 hf (fun x8 hf => ?_)
    exact r_ri X h hr hlk (Nat.le_of_ble_eq_true rfl) (Nat.le_of_ble_eq_true rfl) dX2_keyTells_59 hf
  replace hf := gif_f hf hc3
  have hn0 : (a2 : Int32).toInt ≠ 0 := fun h9 => hc0 (Int32.toInt_inj.mp (h9.trans (by decide)))
  have hn1 : (a2 : Int32).toInt ≠ 1 := fun h9 => hc1 (Int32.toInt_inj.mp (h9.trans (by decide)))
  have hn2 : (a2 : Int32).toInt ≠ 2 := fun h9 => hc2 (Int32.toInt_inj.mp (h9.trans (by decide)))
  have hn3 : (a2 : Int32).toInt ≠ 3 := fun h9 => hc3 (Int32.toInt_inj.mp (h9.trans (by decide)))
  refine lv_tableOut (tgt := 60) X.hx X.hb dX2_keyTells_1 (by omega) (by decide) ?_
  clear hn0 hn1 hn2 hn3 hc0 hc1 hc2 hc3
  refine lv_aload_n X.hx X.hb dX2_keyTells_60 rfl (lv_at hl 0 rfl) ?_
  refine lv_iconst (v := 0) X.hx X.hb dX2_keyTells_61 (by decide) ?_
  refine lv_iload_n X.hx X.hb dX2_keyTells_62 rfl (lv_at hl 1 rfl) ?_
  refine r_cVI (As := [.int 0, .int a1]) (rest := []) (C := RX2) (T := TX2) (N := 36) X h hf (fun res hres => wX2_canPlay l Γ ad _ b0 0 a1 res hres) rfl (cwV 2 X.hts (lw_V q1293 q1295 qs50 q84 q1296) rfl rfl rfl (by decide +kernel) ⟨Nat.le_of_ble_eq_true rfl, Nat.le_of_ble_eq_true rfl⟩) rfl ⟨hl.1, Nat.le_of_ble_eq_true rfl, Nat.le_of_ble_eq_true rfl, Nat.le_of_ble_eq_true rfl⟩ rfl dX2_keyTells_63 (fun x9 μ10 H locs hf h => ?_)
  refine lv_if_eq (tgt := 73) X.hx X.hb dX2_keyTells_66 (by decide) (fun hc => ?_) (fun hc => ?_)
  · replace hf := gif_t hf hc
    clear hc
    refine lv_iconst (v := 0) X.hx X.hb dX2_keyTells_73 (by decide) ?_
    exact r_ri X h hr hlk (Nat.le_of_ble_eq_true rfl) (Nat.le_of_ble_eq_true rfl) dX2_keyTells_74 hf
  · replace hf := gif_f hf hc
    clear hc
    refine lv_iconst (v := 1) X.hx X.hb dX2_keyTells_69 (by decide) ?_
    refine lv_goto (tgt := 74) X.hx X.hb dX2_keyTells_70 (by decide) ?_
    exact r_ri X h hr hlk (Nat.le_of_ble_eq_true rfl) (Nat.le_of_ble_eq_true rfl) dX2_keyTells_74 hf
/-! X2_mixPiano -/
def fX2_mixPiano_L21 (b0 : Nat) (x3 : Int32) (kx43 : gM → gR) : Nat → Int32 → gM → gR
  | 0, _, _ => none
  | n9 + 1, x7, μ8 => if 5 ≤ x7 then (kx43 μ8) else (gis μ8 b0 2 <| cI (fX2_keyTells μ8 b0 x3 x7) fun x10 μ11 => gis μ11 b0 2 <| cV (fX2_mix μ11 b0 ((x10 : Int32).toInt64)) fun μ12 => gnm (x7 + 1) fun x13 => fX2_mixPiano_L21 b0 x3 kx43 n9 x13 μ12)
set_option maxHeartbeats 4000000 in
theorem wX2_mixPiano_L21 {p : Program} {e : Env} {s : State} {m : MethodId} {args : Array Value} {below : List Frame} {meth : Method} {c : Code} {Γ : gG} {A : Nat → Prop} {nz : Nat} {ad : Nat → Nat} {r : Option Value × gM} (l : Launch) (b0 : Nat) (x3 : Int32) (kx43 : gM → gR) (X : gX p m c cX2_mixPiano 3 s args "SandPianoModel" Γ A) (hr : meth.sig.returnType = none) (hlk : meth.locks = false) (hk43 : ∀  (μ : gM) (H : Heap) (locs : List Loc) (ls : Array Slot), kx43  μ = some r → gWd Γ A nz ad μ s.heap H locs → lv_has ls 3 [(0, .ref (ad b0)), (1, .int x3)] → W p l e ({ frames := 3, cells := 0, slots := 0, locals := 67 } : Room) s m args below meth c H locs 0 0 (MQ below (gQ0 Γ ad nz r A) args s 0 0 A) (F0 m 43 ls [])) : ∀ (n9 : Nat) (x7 : Int32) (μ8 : gM) (H : Heap) (locs : List Loc) (ls : Array Slot), fX2_mixPiano_L21 b0 x3 kx43 n9 x7 μ8 = some r → gWd Γ A nz ad μ8 s.heap H locs → lv_has ls 3 [(0, .ref (ad b0)), (1, .int x3), (2, .int x7)] → W p l e ({ frames := 3, cells := 0, slots := 0, locals := 67 } : Room) s m args below meth c H locs 0 0 (MQ below (gQ0 Γ ad nz r A) args s 0 0 A) (F0 m 21 ls []) := by
  intro n9
  induction n9 with
  | zero =>
    intro x7 μ8 H locs ls hf h hl
    have hf : (none : gR) = some r := hf
    cases hf
  | succ n9 ih =>
    intro x7 μ8 H locs ls hf h hl
    rw [fX2_mixPiano_L21] at hf
    refine lv_iload_n X.hx X.hb dX2_mixPiano_21 rfl (lv_at hl 2 rfl) ?_
    refine lv_iconst (v := 5) X.hx X.hb dX2_mixPiano_22 (by decide) ?_
    refine lv_icmp_ge (tgt := 43) X.hx X.hb dX2_mixPiano_23 (by decide) (fun hc => ?_) (fun hc => ?_)
    · replace hf := gif_t hf hc
      clear hc
      exact hk43 _ _ _ _ hf h (lv_sub hl [0, 1] rfl)
    · replace hf := gif_f hf hc
      clear hc
      refine lv_aload_n X.hx X.hb dX2_mixPiano_26 rfl (lv_at hl 0 rfl) ?_
      refine lv_aload_n X.hx X.hb dX2_mixPiano_27 rfl (lv_at hl 0 rfl) ?_
      refine lv_iload_n X.hx X.hb dX2_mixPiano_28 rfl (lv_at hl 1 rfl) ?_
      refine lv_iload_n X.hx X.hb dX2_mixPiano_29 rfl (lv_at hl 2 rfl) ?_
      refine r_cVI (As := [.int x3, .int x7]) (rest := [.ref (ad b0)]) (C := RX2) (T := TX2) (N := 36) X h hf (fun res hres => wX2_keyTells l Γ ad _ b0 x3 x7 res hres) rfl (cwV 2 X.hts (lw_V q1285 q1287 qs48 q84 q1288) rfl rfl rfl (by decide +kernel) ⟨Nat.le_of_ble_eq_true rfl, Nat.le_of_ble_eq_true rfl⟩) rfl ⟨hl.1, Nat.le_of_ble_eq_true rfl, Nat.le_of_ble_eq_true rfl, Nat.le_of_ble_eq_true rfl⟩ rfl dX2_mixPiano_30 (fun x10 μ11 H locs hf h => ?_)
      refine lv_i2l X.hx X.hb dX2_mixPiano_33 rfl ?_
      refine r_cVV (As := [.long ((x10 : Int32).toInt64)]) (rest := []) (C := RX2) (T := TX2) (N := 36) X h hf (fun res hres => wX2_mix l Γ ad _ b0 ((x10 : Int32).toInt64) res hres) rfl (cwV 1 X.hts (lw_V q1533 q1535 qs79 q84 q1536) rfl rfl rfl (by decide +kernel) ⟨Nat.le_of_ble_eq_true rfl, Nat.le_of_ble_eq_true rfl⟩) rfl ⟨hl.1, Nat.le_of_ble_eq_true rfl, Nat.le_of_ble_eq_true rfl, Nat.le_of_ble_eq_true rfl⟩ rfl dX2_mixPiano_34 (fun μ12 H locs hf h => ?_)
      refine r_nmk hf (fun x13 ex hf => ?_)
      refine lv_iinc (v := x13) (lv' := [(2, .int x13), (0, .ref (ad b0)), (1, .int x3)]) X.hx X.hb dX2_mixPiano_37 hl (k := 2) rfl (by rw [ex]; rfl) (by decide) rfl (fun ls hl => ?_)
      clear ex
      refine lv_goto (tgt := 21) X.hx X.hb dX2_mixPiano_40 (by decide) ?_
      exact ih _ _ _ _ _ hf h (lv_sub hl [1, 2, 0] rfl)
def fX2_mixPiano_L11 (b0 : Nat) (kx49 : gM → gR) : Nat → Int32 → gM → gR
  | 0, _, _ => none
  | n5 + 1, x3, μ4 => gI (gfld μ4 b0 2 11) fun x6 => if x6 ≤ x3 then (kx49 μ4) else (fX2_mixPiano_L21 b0 x3 (fun (μ14 : gM) => gnm (x3 + 1) fun x15 => fX2_mixPiano_L11 b0 kx49 n5 x15 μ14) 10000 0 μ4)
set_option maxHeartbeats 4000000 in
theorem wX2_mixPiano_L11 {p : Program} {e : Env} {s : State} {m : MethodId} {args : Array Value} {below : List Frame} {meth : Method} {c : Code} {Γ : gG} {A : Nat → Prop} {nz : Nat} {ad : Nat → Nat} {r : Option Value × gM} (l : Launch) (b0 : Nat) (kx49 : gM → gR) (X : gX p m c cX2_mixPiano 3 s args "SandPianoModel" Γ A) (hr : meth.sig.returnType = none) (hlk : meth.locks = false) (hk49 : ∀  (μ : gM) (H : Heap) (locs : List Loc) (ls : Array Slot), kx49  μ = some r → gWd Γ A nz ad μ s.heap H locs → lv_has ls 3 [(0, .ref (ad b0))] → W p l e ({ frames := 3, cells := 0, slots := 0, locals := 67 } : Room) s m args below meth c H locs 0 0 (MQ below (gQ0 Γ ad nz r A) args s 0 0 A) (F0 m 49 ls [])) : ∀ (n5 : Nat) (x3 : Int32) (μ4 : gM) (H : Heap) (locs : List Loc) (ls : Array Slot), fX2_mixPiano_L11 b0 kx49 n5 x3 μ4 = some r → gWd Γ A nz ad μ4 s.heap H locs → lv_has ls 3 [(0, .ref (ad b0)), (1, .int x3)] → W p l e ({ frames := 3, cells := 0, slots := 0, locals := 67 } : Room) s m args below meth c H locs 0 0 (MQ below (gQ0 Γ ad nz r A) args s 0 0 A) (F0 m 11 ls []) := by
  intro n5
  induction n5 with
  | zero =>
    intro x3 μ4 H locs ls hf h hl
    have hf : (none : gR) = some r := hf
    cases hf
  | succ n5 ih =>
    intro x3 μ4 H locs ls hf h hl
    rw [fX2_mixPiano_L11] at hf
    refine lv_iload_n X.hx X.hb dX2_mixPiano_11 rfl (lv_at hl 1 rfl) ?_
    refine lv_aload_n X.hx X.hb dX2_mixPiano_12 rfl (lv_at hl 0 rfl) ?_
    refine r_getI X h (ci := 2) (k := 11) (C := RX2) (T := TX2) (N := 36) rfl in_X2 (by decide) q1070 rfl dX2_mixPiano_13 hf (fun x6 hf => ?_)
    refine lv_icmp_ge (tgt := 49) X.hx X.hb dX2_mixPiano_16 (by decide) (fun hc => ?_) (fun hc => ?_)
    · replace hf := gif_t hf hc
      clear hc
      exact hk49 _ _ _ _ hf h (lv_sub hl [0] rfl)
    · replace hf := gif_f hf hc
      clear hc
      refine lv_iconst (v := 0) X.hx X.hb dX2_mixPiano_19 (by decide) ?_
      refine lv_istore_n (lv' := [(2, .int 0), (0, .ref (ad b0)), (1, .int x3)]) X.hx X.hb dX2_mixPiano_20 rfl hl (by decide) rfl (fun ls hl => ?_)
      refine wX2_mixPiano_L21 l b0 x3 _ X hr hlk (fun μ14 H locs ls hf h hl => ?_) 10000 _ _ _ _ _ hf h (lv_sub hl [1, 2, 0] rfl)
      refine r_nmk hf (fun x15 ex hf => ?_)
      refine lv_iinc (v := x15) (lv' := [(1, .int x15), (0, .ref (ad b0))]) X.hx X.hb dX2_mixPiano_43 hl (k := 1) rfl (by rw [ex]; rfl) (by decide) rfl (fun ls hl => ?_)
      clear ex
      refine lv_goto (tgt := 11) X.hx X.hb dX2_mixPiano_46 (by decide) ?_
      exact ih _ _ _ _ _ hf h (lv_sub hl [1, 0] rfl)
def fX2_mixPiano_L51 (b0 : Nat) : Nat → Int32 → gM → gR
  | 0, _, _ => none
  | n19 + 1, x17, μ18 => if 3 ≤ x17 then (some (none, μ18)) else (gP (gfld μ18 b0 2 23) fun i20 => gaI μ18 2 i20 x17 fun x21 => gjn (fun (x22 : Int64) (μ23 : gM) => gis μ23 b0 2 <| cV (fX2_mix μ23 b0 x22) fun μ25 => gnm (x17 + 1) fun x26 => fX2_mixPiano_L51 b0 n19 x26 μ25) fun j24 => if x21 = 0 then (j24 (-1) μ18) else (gP (gfld μ18 b0 2 24) fun i27 => gaI μ18 0 i27 x17 fun x28 => j24 ((x28 : Int32).toInt64) μ18))
set_option maxHeartbeats 4000000 in
theorem wX2_mixPiano_L51 {p : Program} {e : Env} {s : State} {m : MethodId} {args : Array Value} {below : List Frame} {meth : Method} {c : Code} {Γ : gG} {A : Nat → Prop} {nz : Nat} {ad : Nat → Nat} {r : Option Value × gM} (l : Launch) (b0 : Nat) (X : gX p m c cX2_mixPiano 3 s args "SandPianoModel" Γ A) (hr : meth.sig.returnType = none) (hlk : meth.locks = false) : ∀ (n19 : Nat) (x17 : Int32) (μ18 : gM) (H : Heap) (locs : List Loc) (ls : Array Slot), fX2_mixPiano_L51 b0 n19 x17 μ18 = some r → gWd Γ A nz ad μ18 s.heap H locs → lv_has ls 3 [(0, .ref (ad b0)), (1, .int x17)] → W p l e ({ frames := 3, cells := 0, slots := 0, locals := 67 } : Room) s m args below meth c H locs 0 0 (MQ below (gQ0 Γ ad nz r A) args s 0 0 A) (F0 m 51 ls []) := by
  intro n19
  induction n19 with
  | zero =>
    intro x17 μ18 H locs ls hf h hl
    have hf : (none : gR) = some r := hf
    cases hf
  | succ n19 ih =>
    intro x17 μ18 H locs ls hf h hl
    rw [fX2_mixPiano_L51] at hf
    refine lv_iload_n X.hx X.hb dX2_mixPiano_51 rfl (lv_at hl 1 rfl) ?_
    refine lv_iconst (v := 3) X.hx X.hb dX2_mixPiano_52 (by decide) ?_
    refine lv_icmp_ge (tgt := 88) X.hx X.hb dX2_mixPiano_53 (by decide) (fun hc => ?_) (fun hc => ?_)
    · replace hf := gif_t hf hc
      clear hc
      exact r_rv X h hr hlk (Nat.le_of_ble_eq_true rfl) (Nat.le_of_ble_eq_true rfl) dX2_mixPiano_88 hf
    · replace hf := gif_f hf hc
      clear hc
      refine lv_aload_n X.hx X.hb dX2_mixPiano_56 rfl (lv_at hl 0 rfl) ?_
      refine lv_aload_n X.hx X.hb dX2_mixPiano_57 rfl (lv_at hl 0 rfl) ?_
      refine r_getP X h (ci := 2) (k := 23) (C := RX2) (T := TX2) (N := 36) rfl in_X2 (by decide) q1082 rfl dX2_mixPiano_58 hf (fun i20 hf => ?_)
      refine lv_iload_n X.hx X.hb dX2_mixPiano_61 rfl (lv_at hl 1 rfl) ?_
      refine r_zald X h dX2_mixPiano_62 hf (fun x21 hf => ?_)
      refine r_jn hf (fun j24 ej24 hf => ?_)
      have hj24 : ∀ (x22 : Int64) (μ23 : gM) (H : Heap) (locs : List Loc) (ls : Array Slot), j24 x22 μ23 = some r → gWd Γ A nz ad μ23 s.heap H locs → lv_has ls 3 [(0, .ref (ad b0)), (1, .int x17)] → W p l e ({ frames := 3, cells := 0, slots := 0, locals := 67 } : Room) s m args below meth c H locs 0 0 (MQ below (gQ0 Γ ad nz r A) args s 0 0 A) (F0 m 79 ls [.long x22, .ref (ad b0)]) := by
        intro x22 μ23 H locs ls hf h hl
        rw [ej24] at hf
        refine r_cVV (As := [.long x22]) (rest := []) (C := RX2) (T := TX2) (N := 36) X h hf (fun res hres => wX2_mix l Γ ad _ b0 x22 res hres) rfl (cwV 1 X.hts (lw_V q1533 q1535 qs79 q84 q1536) rfl rfl rfl (by decide +kernel) ⟨Nat.le_of_ble_eq_true rfl, Nat.le_of_ble_eq_true rfl⟩) rfl ⟨hl.1, Nat.le_of_ble_eq_true rfl, Nat.le_of_ble_eq_true rfl, Nat.le_of_ble_eq_true rfl⟩ rfl dX2_mixPiano_79 (fun μ25 H locs hf h => ?_)
        refine r_nmk hf (fun x26 ex hf => ?_)
        refine lv_iinc (v := x26) (lv' := [(1, .int x26), (0, .ref (ad b0))]) X.hx X.hb dX2_mixPiano_82 hl (k := 1) rfl (by rw [ex]; rfl) (by decide) rfl (fun ls hl => ?_)
        clear ex
        refine lv_goto (tgt := 51) X.hx X.hb dX2_mixPiano_85 (by decide) ?_
        exact ih _ _ _ _ _ hf h (lv_sub hl [1, 0] rfl)
      clear ej24
      refine lv_if_eq (tgt := 76) X.hx X.hb dX2_mixPiano_63 (by decide) (fun hc => ?_) (fun hc => ?_)
      · replace hf := gif_t hf hc
        clear hc
        refine lv_ldc2 (v := (-1)) X.hx X.hb X.hown (X.hts _ q1542) dX2_mixPiano_76 ?_
        exact hj24 _ _ _ _ _ hf h (lv_sub hl [0, 1] rfl)
      · replace hf := gif_f hf hc
        clear hc
        refine lv_aload_n X.hx X.hb dX2_mixPiano_66 rfl (lv_at hl 0 rfl) ?_
        refine r_getP X h (ci := 2) (k := 24) (C := RX2) (T := TX2) (N := 36) rfl in_X2 (by decide) q1083 rfl dX2_mixPiano_67 hf (fun i27 hf => ?_)
        refine lv_iload_n X.hx X.hb dX2_mixPiano_70 rfl (lv_at hl 1 rfl) ?_
        refine r_iald X h dX2_mixPiano_71 hf (fun x28 hf => ?_)
        refine lv_i2l X.hx X.hb dX2_mixPiano_72 rfl ?_
        refine lv_goto (tgt := 79) X.hx X.hb dX2_mixPiano_73 (by decide) ?_
        exact hj24 _ _ _ _ _ hf h (lv_sub hl [0, 1] rfl)
def fX2_mixPiano (μ0 : gM) (b0 : Nat) : gR := gI (gfld μ0 b0 2 10) fun x1 => gis μ0 b0 2 <| cV (fX2_mix μ0 b0 ((x1 : Int32).toInt64)) fun μ2 => fX2_mixPiano_L11 b0 (fun (μ16 : gM) => fX2_mixPiano_L51 b0 10000 0 μ16) 10000 0 μ2
set_option maxHeartbeats 4000000 in
theorem wX2_mixPiano (l : Launch) (Γ : gG) (ad : Nat → Nat) (μ0 : gM) (b0 : Nat) (r : Option Value × gM) (hf : fX2_mixPiano μ0 b0 = some r) : gMt0 l Γ yX2_mixPiano (ws_ yX2_mixPiano cX2_mixPiano 3 none) ({ frames := 3, cells := 0, slots := 0, locals := 67 } : Room) 0 0 ad μ0 [.ref (ad b0)] r := by
  intro sz
  refine g_start (maxL := 3) (ret := none) (by decide) rfl g_all (Nat.le_of_ble_eq_true rfl) ?_
  intro p e s m below meth c ls hr hlk hnm X h hl
  generalize gA ad μ0 sz = A at X h ⊢
  generalize ([.ref (ad b0)] : List Value).toArray = args at X ⊢
  have X : gX p m c cX2_mixPiano 3 s args "SandPianoModel" Γ A := X
  have hl : lv_has ls 3 [(0, .ref (ad b0))] := hl
  show W p l e ({ frames := 3, cells := 0, slots := 0, locals := 67 } : Room) s m args below meth c s.heap [] 0 0 (MQ below (gQ0 Γ ad μ0.1 r A) args s 0 0 A) (F0 m 0 ls [])
  unfold fX2_mixPiano at hf
  refine lv_aload_n X.hx X.hb dX2_mixPiano_0 rfl (lv_at hl 0 rfl) ?_
  refine lv_aload_n X.hx X.hb dX2_mixPiano_1 rfl (lv_at hl 0 rfl) ?_
  refine r_getI X h (ci := 2) (k := 10) (C := RX2) (T := TX2) (N := 36) rfl in_X2 (by decide) q1069 rfl dX2_mixPiano_2 hf (fun x1 hf => ?_)
  refine lv_i2l X.hx X.hb dX2_mixPiano_5 rfl ?_
  refine r_cVV (As := [.long ((x1 : Int32).toInt64)]) (rest := []) (C := RX2) (T := TX2) (N := 36) X h hf (fun res hres => wX2_mix l Γ ad _ b0 ((x1 : Int32).toInt64) res hres) rfl (cwV 1 X.hts (lw_V q1533 q1535 qs79 q84 q1536) rfl rfl rfl (by decide +kernel) ⟨Nat.le_of_ble_eq_true rfl, Nat.le_of_ble_eq_true rfl⟩) rfl ⟨hl.1, Nat.le_of_ble_eq_true rfl, Nat.le_of_ble_eq_true rfl, Nat.le_of_ble_eq_true rfl⟩ rfl dX2_mixPiano_6 (fun μ2 H locs hf h => ?_)
  refine lv_iconst (v := 0) X.hx X.hb dX2_mixPiano_9 (by decide) ?_
  refine lv_istore_n (lv' := [(1, .int 0), (0, .ref (ad b0))]) X.hx X.hb dX2_mixPiano_10 rfl hl (by decide) rfl (fun ls hl => ?_)
  refine wX2_mixPiano_L11 l b0 _ X hr hlk (fun μ16 H locs ls hf h hl => ?_) 10000 _ _ _ _ _ hf h (lv_sub hl [1, 0] rfl)
  refine lv_iconst (v := 0) X.hx X.hb dX2_mixPiano_49 (by decide) ?_
  refine lv_istore_n (lv' := [(1, .int 0), (0, .ref (ad b0))]) X.hx X.hb dX2_mixPiano_50 rfl hl (by decide) rfl (fun ls hl => ?_)
  refine wX2_mixPiano_L51 l b0 X hr hlk 10000 _ _ _ _ _ hf h (lv_sub hl [1, 0] rfl)
/-! X2_digest -/
def fX2_digest_L9 (b0 : Nat) (kx31 : gM → gR) : Nat → Int32 → gM → gR
  | 0, _, _ => none
  | n4 + 1, x2, μ3 => if 9 ≤ x2 then (kx31 μ3) else (gis μ3 b0 2 <| cI (fX2_counted μ3 b0 x2) fun x5 μ6 => gis μ6 b0 2 <| cV (fX2_mix μ6 b0 ((x5 : Int32).toInt64)) fun μ7 => gnm (x2 + 1) fun x8 => fX2_digest_L9 b0 kx31 n4 x8 μ7)
set_option maxHeartbeats 4000000 in
theorem wX2_digest_L9 {p : Program} {e : Env} {s : State} {m : MethodId} {args : Array Value} {below : List Frame} {meth : Method} {c : Code} {Γ : gG} {A : Nat → Prop} {nz : Nat} {ad : Nat → Nat} {r : Option Value × gM} (l : Launch) (b0 : Nat) (kx31 : gM → gR) (X : gX p m c cX2_digest 3 s args "SandPianoModel" Γ A) (hr : meth.sig.returnType = (some .long)) (hlk : meth.locks = false) (hk31 : ∀  (μ : gM) (H : Heap) (locs : List Loc) (ls : Array Slot), kx31  μ = some r → gWd Γ A nz ad μ s.heap H locs → lv_has ls 3 [(0, .ref (ad b0))] → W p l e ({ frames := 4, cells := 0, slots := 0, locals := 89 } : Room) s m args below meth c H locs 0 0 (MQ below (gQ0 Γ ad nz r A) args s 0 0 A) (F0 m 31 ls [])) : ∀ (n4 : Nat) (x2 : Int32) (μ3 : gM) (H : Heap) (locs : List Loc) (ls : Array Slot), fX2_digest_L9 b0 kx31 n4 x2 μ3 = some r → gWd Γ A nz ad μ3 s.heap H locs → lv_has ls 3 [(0, .ref (ad b0)), (1, .int x2)] → W p l e ({ frames := 4, cells := 0, slots := 0, locals := 89 } : Room) s m args below meth c H locs 0 0 (MQ below (gQ0 Γ ad nz r A) args s 0 0 A) (F0 m 9 ls []) := by
  intro n4
  induction n4 with
  | zero =>
    intro x2 μ3 H locs ls hf h hl
    have hf : (none : gR) = some r := hf
    cases hf
  | succ n4 ih =>
    intro x2 μ3 H locs ls hf h hl
    rw [fX2_digest_L9] at hf
    refine lv_iload_n X.hx X.hb dX2_digest_9 rfl (lv_at hl 1 rfl) ?_
    refine lv_bipush (v := 9) X.hx X.hb dX2_digest_10 (by decide) ?_
    refine lv_icmp_ge (tgt := 31) X.hx X.hb dX2_digest_12 (by decide) (fun hc => ?_) (fun hc => ?_)
    · replace hf := gif_t hf hc
      clear hc
      exact hk31 _ _ _ _ hf h (lv_sub hl [0] rfl)
    · replace hf := gif_f hf hc
      clear hc
      refine lv_aload_n X.hx X.hb dX2_digest_15 rfl (lv_at hl 0 rfl) ?_
      refine lv_aload_n X.hx X.hb dX2_digest_16 rfl (lv_at hl 0 rfl) ?_
      refine lv_iload_n X.hx X.hb dX2_digest_17 rfl (lv_at hl 1 rfl) ?_
      refine r_cVI (As := [.int x2]) (rest := [.ref (ad b0)]) (C := RX2) (T := TX2) (N := 36) X h hf (fun res hres => wX2_counted l Γ ad _ b0 x2 res hres) rfl (cwV 1 X.hts (lw_V q1524 q1526 qs78 q84 q1527) rfl rfl rfl (by decide +kernel) ⟨Nat.le_of_ble_eq_true rfl, Nat.le_of_ble_eq_true rfl⟩) rfl ⟨hl.1, Nat.le_of_ble_eq_true rfl, Nat.le_of_ble_eq_true rfl, Nat.le_of_ble_eq_true rfl⟩ rfl dX2_digest_18 (fun x5 μ6 H locs hf h => ?_)
      refine lv_i2l X.hx X.hb dX2_digest_21 rfl ?_
      refine r_cVV (As := [.long ((x5 : Int32).toInt64)]) (rest := []) (C := RX2) (T := TX2) (N := 36) X h hf (fun res hres => wX2_mix l Γ ad _ b0 ((x5 : Int32).toInt64) res hres) rfl (cwV 1 X.hts (lw_V q1533 q1535 qs79 q84 q1536) rfl rfl rfl (by decide +kernel) ⟨Nat.le_of_ble_eq_true rfl, Nat.le_of_ble_eq_true rfl⟩) rfl ⟨hl.1, Nat.le_of_ble_eq_true rfl, Nat.le_of_ble_eq_true rfl, Nat.le_of_ble_eq_true rfl⟩ rfl dX2_digest_22 (fun μ7 H locs hf h => ?_)
      refine r_nmk hf (fun x8 ex hf => ?_)
      refine lv_iinc (v := x8) (lv' := [(1, .int x8), (0, .ref (ad b0))]) X.hx X.hb dX2_digest_25 hl (k := 1) rfl (by rw [ex]; rfl) (by decide) rfl (fun ls hl => ?_)
      clear ex
      refine lv_goto (tgt := 9) X.hx X.hb dX2_digest_28 (by decide) ?_
      exact ih _ _ _ _ _ hf h (lv_sub hl [1, 0] rfl)
def fX2_digest_L56 (b0 : Nat) (x11 : Int32) (kx83 : gM → gR) : Nat → Int32 → gM → gR
  | 0, _, _ => none
  | n19 + 1, x17, μ18 => gP (gfld μ18 b0 2 5) fun i20 => gaI μ18 0 i20 x11 fun x21 => if x21 ≤ x17 then (kx83 μ18) else (gis μ18 b0 2 <| cI (fX2_rowAt μ18 b0 x11 x17) fun x22 μ23 => gis μ23 b0 2 <| cV (fX2_mix μ23 b0 ((x22 : Int32).toInt64)) fun μ24 => gnm (x17 + 1) fun x25 => fX2_digest_L56 b0 x11 kx83 n19 x25 μ24)
set_option maxHeartbeats 4000000 in
theorem wX2_digest_L56 {p : Program} {e : Env} {s : State} {m : MethodId} {args : Array Value} {below : List Frame} {meth : Method} {c : Code} {Γ : gG} {A : Nat → Prop} {nz : Nat} {ad : Nat → Nat} {r : Option Value × gM} (l : Launch) (b0 : Nat) (x11 : Int32) (kx83 : gM → gR) (X : gX p m c cX2_digest 3 s args "SandPianoModel" Γ A) (hr : meth.sig.returnType = (some .long)) (hlk : meth.locks = false) (hk83 : ∀  (μ : gM) (H : Heap) (locs : List Loc) (ls : Array Slot), kx83  μ = some r → gWd Γ A nz ad μ s.heap H locs → lv_has ls 3 [(0, .ref (ad b0)), (1, .int x11)] → W p l e ({ frames := 4, cells := 0, slots := 0, locals := 89 } : Room) s m args below meth c H locs 0 0 (MQ below (gQ0 Γ ad nz r A) args s 0 0 A) (F0 m 83 ls [])) : ∀ (n19 : Nat) (x17 : Int32) (μ18 : gM) (H : Heap) (locs : List Loc) (ls : Array Slot), fX2_digest_L56 b0 x11 kx83 n19 x17 μ18 = some r → gWd Γ A nz ad μ18 s.heap H locs → lv_has ls 3 [(0, .ref (ad b0)), (1, .int x11), (2, .int x17)] → W p l e ({ frames := 4, cells := 0, slots := 0, locals := 89 } : Room) s m args below meth c H locs 0 0 (MQ below (gQ0 Γ ad nz r A) args s 0 0 A) (F0 m 56 ls []) := by
  intro n19
  induction n19 with
  | zero =>
    intro x17 μ18 H locs ls hf h hl
    have hf : (none : gR) = some r := hf
    cases hf
  | succ n19 ih =>
    intro x17 μ18 H locs ls hf h hl
    rw [fX2_digest_L56] at hf
    refine lv_iload_n X.hx X.hb dX2_digest_56 rfl (lv_at hl 2 rfl) ?_
    refine lv_aload_n X.hx X.hb dX2_digest_57 rfl (lv_at hl 0 rfl) ?_
    refine r_getP X h (ci := 2) (k := 5) (C := RX2) (T := TX2) (N := 36) rfl in_X2 (by decide) q1064 rfl dX2_digest_58 hf (fun i20 hf => ?_)
    refine lv_iload_n X.hx X.hb dX2_digest_61 rfl (lv_at hl 1 rfl) ?_
    refine r_iald X h dX2_digest_62 hf (fun x21 hf => ?_)
    refine lv_icmp_ge (tgt := 83) X.hx X.hb dX2_digest_63 (by decide) (fun hc => ?_) (fun hc => ?_)
    · replace hf := gif_t hf hc
      clear hc
      exact hk83 _ _ _ _ hf h (lv_sub hl [0, 1] rfl)
    · replace hf := gif_f hf hc
      clear hc
      refine lv_aload_n X.hx X.hb dX2_digest_66 rfl (lv_at hl 0 rfl) ?_
      refine lv_aload_n X.hx X.hb dX2_digest_67 rfl (lv_at hl 0 rfl) ?_
      refine lv_iload_n X.hx X.hb dX2_digest_68 rfl (lv_at hl 1 rfl) ?_
      refine lv_iload_n X.hx X.hb dX2_digest_69 rfl (lv_at hl 2 rfl) ?_
      refine r_cVI (As := [.int x11, .int x17]) (rest := [.ref (ad b0)]) (C := RX2) (T := TX2) (N := 36) X h hf (fun res hres => wX2_rowAt l Γ ad _ b0 x11 x17 res hres) rfl (cwV 2 X.hts (lw_V q1207 q1209 qs39 q84 q1210) rfl rfl rfl (by decide +kernel) ⟨Nat.le_of_ble_eq_true rfl, Nat.le_of_ble_eq_true rfl⟩) rfl ⟨hl.1, Nat.le_of_ble_eq_true rfl, Nat.le_of_ble_eq_true rfl, Nat.le_of_ble_eq_true rfl⟩ rfl dX2_digest_70 (fun x22 μ23 H locs hf h => ?_)
      refine lv_i2l X.hx X.hb dX2_digest_73 rfl ?_
      refine r_cVV (As := [.long ((x22 : Int32).toInt64)]) (rest := []) (C := RX2) (T := TX2) (N := 36) X h hf (fun res hres => wX2_mix l Γ ad _ b0 ((x22 : Int32).toInt64) res hres) rfl (cwV 1 X.hts (lw_V q1533 q1535 qs79 q84 q1536) rfl rfl rfl (by decide +kernel) ⟨Nat.le_of_ble_eq_true rfl, Nat.le_of_ble_eq_true rfl⟩) rfl ⟨hl.1, Nat.le_of_ble_eq_true rfl, Nat.le_of_ble_eq_true rfl, Nat.le_of_ble_eq_true rfl⟩ rfl dX2_digest_74 (fun μ24 H locs hf h => ?_)
      refine r_nmk hf (fun x25 ex hf => ?_)
      refine lv_iinc (v := x25) (lv' := [(2, .int x25), (0, .ref (ad b0)), (1, .int x11)]) X.hx X.hb dX2_digest_77 hl (k := 2) rfl (by rw [ex]; rfl) (by decide) rfl (fun ls hl => ?_)
      clear ex
      refine lv_goto (tgt := 56) X.hx X.hb dX2_digest_80 (by decide) ?_
      exact ih _ _ _ _ _ hf h (lv_sub hl [1, 2, 0] rfl)
def fX2_digest_L37 (b0 : Nat) (kx89 : gM → gR) : Nat → Int32 → gM → gR
  | 0, _, _ => none
  | n13 + 1, x11, μ12 => if 6 ≤ x11 then (kx89 μ12) else (gP (gfld μ12 b0 2 5) fun i14 => gaI μ12 0 i14 x11 fun x15 => gis μ12 b0 2 <| cV (fX2_mix μ12 b0 ((x15 : Int32).toInt64)) fun μ16 => fX2_digest_L56 b0 x11 (fun (μ26 : gM) => gnm (x11 + 1) fun x27 => fX2_digest_L37 b0 kx89 n13 x27 μ26) 10000 0 μ16)
set_option maxHeartbeats 4000000 in
theorem wX2_digest_L37 {p : Program} {e : Env} {s : State} {m : MethodId} {args : Array Value} {below : List Frame} {meth : Method} {c : Code} {Γ : gG} {A : Nat → Prop} {nz : Nat} {ad : Nat → Nat} {r : Option Value × gM} (l : Launch) (b0 : Nat) (kx89 : gM → gR) (X : gX p m c cX2_digest 3 s args "SandPianoModel" Γ A) (hr : meth.sig.returnType = (some .long)) (hlk : meth.locks = false) (hk89 : ∀  (μ : gM) (H : Heap) (locs : List Loc) (ls : Array Slot), kx89  μ = some r → gWd Γ A nz ad μ s.heap H locs → lv_has ls 3 [(0, .ref (ad b0))] → W p l e ({ frames := 4, cells := 0, slots := 0, locals := 89 } : Room) s m args below meth c H locs 0 0 (MQ below (gQ0 Γ ad nz r A) args s 0 0 A) (F0 m 89 ls [])) : ∀ (n13 : Nat) (x11 : Int32) (μ12 : gM) (H : Heap) (locs : List Loc) (ls : Array Slot), fX2_digest_L37 b0 kx89 n13 x11 μ12 = some r → gWd Γ A nz ad μ12 s.heap H locs → lv_has ls 3 [(0, .ref (ad b0)), (1, .int x11)] → W p l e ({ frames := 4, cells := 0, slots := 0, locals := 89 } : Room) s m args below meth c H locs 0 0 (MQ below (gQ0 Γ ad nz r A) args s 0 0 A) (F0 m 37 ls []) := by
  intro n13
  induction n13 with
  | zero =>
    intro x11 μ12 H locs ls hf h hl
    have hf : (none : gR) = some r := hf
    cases hf
  | succ n13 ih =>
    intro x11 μ12 H locs ls hf h hl
    rw [fX2_digest_L37] at hf
    refine lv_iload_n X.hx X.hb dX2_digest_37 rfl (lv_at hl 1 rfl) ?_
    refine lv_bipush (v := 6) X.hx X.hb dX2_digest_38 (by decide) ?_
    refine lv_icmp_ge (tgt := 89) X.hx X.hb dX2_digest_40 (by decide) (fun hc => ?_) (fun hc => ?_)
    · replace hf := gif_t hf hc
      clear hc
      exact hk89 _ _ _ _ hf h (lv_sub hl [0] rfl)
    · replace hf := gif_f hf hc
      clear hc
      refine lv_aload_n X.hx X.hb dX2_digest_43 rfl (lv_at hl 0 rfl) ?_
      refine lv_aload_n X.hx X.hb dX2_digest_44 rfl (lv_at hl 0 rfl) ?_
      refine r_getP X h (ci := 2) (k := 5) (C := RX2) (T := TX2) (N := 36) rfl in_X2 (by decide) q1064 rfl dX2_digest_45 hf (fun i14 hf => ?_)
      refine lv_iload_n X.hx X.hb dX2_digest_48 rfl (lv_at hl 1 rfl) ?_
      refine r_iald X h dX2_digest_49 hf (fun x15 hf => ?_)
      refine lv_i2l X.hx X.hb dX2_digest_50 rfl ?_
      refine r_cVV (As := [.long ((x15 : Int32).toInt64)]) (rest := []) (C := RX2) (T := TX2) (N := 36) X h hf (fun res hres => wX2_mix l Γ ad _ b0 ((x15 : Int32).toInt64) res hres) rfl (cwV 1 X.hts (lw_V q1533 q1535 qs79 q84 q1536) rfl rfl rfl (by decide +kernel) ⟨Nat.le_of_ble_eq_true rfl, Nat.le_of_ble_eq_true rfl⟩) rfl ⟨hl.1, Nat.le_of_ble_eq_true rfl, Nat.le_of_ble_eq_true rfl, Nat.le_of_ble_eq_true rfl⟩ rfl dX2_digest_51 (fun μ16 H locs hf h => ?_)
      refine lv_iconst (v := 0) X.hx X.hb dX2_digest_54 (by decide) ?_
      refine lv_istore_n (lv' := [(2, .int 0), (0, .ref (ad b0)), (1, .int x11)]) X.hx X.hb dX2_digest_55 rfl hl (by decide) rfl (fun ls hl => ?_)
      refine wX2_digest_L56 l b0 x11 _ X hr hlk (fun μ26 H locs ls hf h hl => ?_) 10000 _ _ _ _ _ hf h (lv_sub hl [1, 2, 0] rfl)
      refine r_nmk hf (fun x27 ex hf => ?_)
      refine lv_iinc (v := x27) (lv' := [(1, .int x27), (0, .ref (ad b0))]) X.hx X.hb dX2_digest_83 hl (k := 1) rfl (by rw [ex]; rfl) (by decide) rfl (fun ls hl => ?_)
      clear ex
      refine lv_goto (tgt := 37) X.hx X.hb dX2_digest_86 (by decide) ?_
      exact ih _ _ _ _ _ hf h (lv_sub hl [1, 0] rfl)
def fX2_digest_L109 (b0 : Nat) (x29 : Int32) (kx136 : gM → gR) : Nat → Int32 → gM → gR
  | 0, _, _ => none
  | n37 + 1, x35, μ36 => gP (gfld μ36 b0 2 8) fun i38 => gaI μ36 0 i38 x29 fun x39 => if x39 ≤ x35 then (kx136 μ36) else (gis μ36 b0 2 <| cI (fX2_byteAt μ36 b0 x29 x35) fun x40 μ41 => gis μ41 b0 2 <| cV (fX2_mix μ41 b0 ((x40 : Int32).toInt64)) fun μ42 => gnm (x35 + 1) fun x43 => fX2_digest_L109 b0 x29 kx136 n37 x43 μ42)
set_option maxHeartbeats 4000000 in
theorem wX2_digest_L109 {p : Program} {e : Env} {s : State} {m : MethodId} {args : Array Value} {below : List Frame} {meth : Method} {c : Code} {Γ : gG} {A : Nat → Prop} {nz : Nat} {ad : Nat → Nat} {r : Option Value × gM} (l : Launch) (b0 : Nat) (x29 : Int32) (kx136 : gM → gR) (X : gX p m c cX2_digest 3 s args "SandPianoModel" Γ A) (hr : meth.sig.returnType = (some .long)) (hlk : meth.locks = false) (hk136 : ∀  (μ : gM) (H : Heap) (locs : List Loc) (ls : Array Slot), kx136  μ = some r → gWd Γ A nz ad μ s.heap H locs → lv_has ls 3 [(0, .ref (ad b0)), (1, .int x29)] → W p l e ({ frames := 4, cells := 0, slots := 0, locals := 89 } : Room) s m args below meth c H locs 0 0 (MQ below (gQ0 Γ ad nz r A) args s 0 0 A) (F0 m 136 ls [])) : ∀ (n37 : Nat) (x35 : Int32) (μ36 : gM) (H : Heap) (locs : List Loc) (ls : Array Slot), fX2_digest_L109 b0 x29 kx136 n37 x35 μ36 = some r → gWd Γ A nz ad μ36 s.heap H locs → lv_has ls 3 [(0, .ref (ad b0)), (1, .int x29), (2, .int x35)] → W p l e ({ frames := 4, cells := 0, slots := 0, locals := 89 } : Room) s m args below meth c H locs 0 0 (MQ below (gQ0 Γ ad nz r A) args s 0 0 A) (F0 m 109 ls []) := by
  intro n37
  induction n37 with
  | zero =>
    intro x35 μ36 H locs ls hf h hl
    have hf : (none : gR) = some r := hf
    cases hf
  | succ n37 ih =>
    intro x35 μ36 H locs ls hf h hl
    rw [fX2_digest_L109] at hf
    refine lv_iload_n X.hx X.hb dX2_digest_109 rfl (lv_at hl 2 rfl) ?_
    refine lv_aload_n X.hx X.hb dX2_digest_110 rfl (lv_at hl 0 rfl) ?_
    refine r_getP X h (ci := 2) (k := 8) (C := RX2) (T := TX2) (N := 36) rfl in_X2 (by decide) q1067 rfl dX2_digest_111 hf (fun i38 hf => ?_)
    refine lv_iload_n X.hx X.hb dX2_digest_114 rfl (lv_at hl 1 rfl) ?_
    refine r_iald X h dX2_digest_115 hf (fun x39 hf => ?_)
    refine lv_icmp_ge (tgt := 136) X.hx X.hb dX2_digest_116 (by decide) (fun hc => ?_) (fun hc => ?_)
    · replace hf := gif_t hf hc
      clear hc
      exact hk136 _ _ _ _ hf h (lv_sub hl [0, 1] rfl)
    · replace hf := gif_f hf hc
      clear hc
      refine lv_aload_n X.hx X.hb dX2_digest_119 rfl (lv_at hl 0 rfl) ?_
      refine lv_aload_n X.hx X.hb dX2_digest_120 rfl (lv_at hl 0 rfl) ?_
      refine lv_iload_n X.hx X.hb dX2_digest_121 rfl (lv_at hl 1 rfl) ?_
      refine lv_iload_n X.hx X.hb dX2_digest_122 rfl (lv_at hl 2 rfl) ?_
      refine r_cVI (As := [.int x29, .int x35]) (rest := [.ref (ad b0)]) (C := RX2) (T := TX2) (N := 36) X h hf (fun res hres => wX2_byteAt l Γ ad _ b0 x29 x35 res hres) rfl (cwV 2 X.hts (lw_V q1250 q1252 qs42 q84 q1253) rfl rfl rfl (by decide +kernel) ⟨Nat.le_of_ble_eq_true rfl, Nat.le_of_ble_eq_true rfl⟩) rfl ⟨hl.1, Nat.le_of_ble_eq_true rfl, Nat.le_of_ble_eq_true rfl, Nat.le_of_ble_eq_true rfl⟩ rfl dX2_digest_123 (fun x40 μ41 H locs hf h => ?_)
      refine lv_i2l X.hx X.hb dX2_digest_126 rfl ?_
      refine r_cVV (As := [.long ((x40 : Int32).toInt64)]) (rest := []) (C := RX2) (T := TX2) (N := 36) X h hf (fun res hres => wX2_mix l Γ ad _ b0 ((x40 : Int32).toInt64) res hres) rfl (cwV 1 X.hts (lw_V q1533 q1535 qs79 q84 q1536) rfl rfl rfl (by decide +kernel) ⟨Nat.le_of_ble_eq_true rfl, Nat.le_of_ble_eq_true rfl⟩) rfl ⟨hl.1, Nat.le_of_ble_eq_true rfl, Nat.le_of_ble_eq_true rfl, Nat.le_of_ble_eq_true rfl⟩ rfl dX2_digest_127 (fun μ42 H locs hf h => ?_)
      refine r_nmk hf (fun x43 ex hf => ?_)
      refine lv_iinc (v := x43) (lv' := [(2, .int x43), (0, .ref (ad b0)), (1, .int x29)]) X.hx X.hb dX2_digest_130 hl (k := 2) rfl (by rw [ex]; rfl) (by decide) rfl (fun ls hl => ?_)
      clear ex
      refine lv_goto (tgt := 109) X.hx X.hb dX2_digest_133 (by decide) ?_
      exact ih _ _ _ _ _ hf h (lv_sub hl [1, 2, 0] rfl)
def fX2_digest_L91 (b0 : Nat) (kx142 : gM → gR) : Nat → Int32 → gM → gR
  | 0, _, _ => none
  | n31 + 1, x29, μ30 => if 4 ≤ x29 then (kx142 μ30) else (gP (gfld μ30 b0 2 8) fun i32 => gaI μ30 0 i32 x29 fun x33 => gis μ30 b0 2 <| cV (fX2_mix μ30 b0 ((x33 : Int32).toInt64)) fun μ34 => fX2_digest_L109 b0 x29 (fun (μ44 : gM) => gnm (x29 + 1) fun x45 => fX2_digest_L91 b0 kx142 n31 x45 μ44) 10000 0 μ34)
set_option maxHeartbeats 4000000 in
theorem wX2_digest_L91 {p : Program} {e : Env} {s : State} {m : MethodId} {args : Array Value} {below : List Frame} {meth : Method} {c : Code} {Γ : gG} {A : Nat → Prop} {nz : Nat} {ad : Nat → Nat} {r : Option Value × gM} (l : Launch) (b0 : Nat) (kx142 : gM → gR) (X : gX p m c cX2_digest 3 s args "SandPianoModel" Γ A) (hr : meth.sig.returnType = (some .long)) (hlk : meth.locks = false) (hk142 : ∀  (μ : gM) (H : Heap) (locs : List Loc) (ls : Array Slot), kx142  μ = some r → gWd Γ A nz ad μ s.heap H locs → lv_has ls 3 [(0, .ref (ad b0))] → W p l e ({ frames := 4, cells := 0, slots := 0, locals := 89 } : Room) s m args below meth c H locs 0 0 (MQ below (gQ0 Γ ad nz r A) args s 0 0 A) (F0 m 142 ls [])) : ∀ (n31 : Nat) (x29 : Int32) (μ30 : gM) (H : Heap) (locs : List Loc) (ls : Array Slot), fX2_digest_L91 b0 kx142 n31 x29 μ30 = some r → gWd Γ A nz ad μ30 s.heap H locs → lv_has ls 3 [(0, .ref (ad b0)), (1, .int x29)] → W p l e ({ frames := 4, cells := 0, slots := 0, locals := 89 } : Room) s m args below meth c H locs 0 0 (MQ below (gQ0 Γ ad nz r A) args s 0 0 A) (F0 m 91 ls []) := by
  intro n31
  induction n31 with
  | zero =>
    intro x29 μ30 H locs ls hf h hl
    have hf : (none : gR) = some r := hf
    cases hf
  | succ n31 ih =>
    intro x29 μ30 H locs ls hf h hl
    rw [fX2_digest_L91] at hf
    refine lv_iload_n X.hx X.hb dX2_digest_91 rfl (lv_at hl 1 rfl) ?_
    refine lv_iconst (v := 4) X.hx X.hb dX2_digest_92 (by decide) ?_
    refine lv_icmp_ge (tgt := 142) X.hx X.hb dX2_digest_93 (by decide) (fun hc => ?_) (fun hc => ?_)
    · replace hf := gif_t hf hc
      clear hc
      exact hk142 _ _ _ _ hf h (lv_sub hl [0] rfl)
    · replace hf := gif_f hf hc
      clear hc
      refine lv_aload_n X.hx X.hb dX2_digest_96 rfl (lv_at hl 0 rfl) ?_
      refine lv_aload_n X.hx X.hb dX2_digest_97 rfl (lv_at hl 0 rfl) ?_
      refine r_getP X h (ci := 2) (k := 8) (C := RX2) (T := TX2) (N := 36) rfl in_X2 (by decide) q1067 rfl dX2_digest_98 hf (fun i32 hf => ?_)
      refine lv_iload_n X.hx X.hb dX2_digest_101 rfl (lv_at hl 1 rfl) ?_
      refine r_iald X h dX2_digest_102 hf (fun x33 hf => ?_)
      refine lv_i2l X.hx X.hb dX2_digest_103 rfl ?_
      refine r_cVV (As := [.long ((x33 : Int32).toInt64)]) (rest := []) (C := RX2) (T := TX2) (N := 36) X h hf (fun res hres => wX2_mix l Γ ad _ b0 ((x33 : Int32).toInt64) res hres) rfl (cwV 1 X.hts (lw_V q1533 q1535 qs79 q84 q1536) rfl rfl rfl (by decide +kernel) ⟨Nat.le_of_ble_eq_true rfl, Nat.le_of_ble_eq_true rfl⟩) rfl ⟨hl.1, Nat.le_of_ble_eq_true rfl, Nat.le_of_ble_eq_true rfl, Nat.le_of_ble_eq_true rfl⟩ rfl dX2_digest_104 (fun μ34 H locs hf h => ?_)
      refine lv_iconst (v := 0) X.hx X.hb dX2_digest_107 (by decide) ?_
      refine lv_istore_n (lv' := [(2, .int 0), (0, .ref (ad b0)), (1, .int x29)]) X.hx X.hb dX2_digest_108 rfl hl (by decide) rfl (fun ls hl => ?_)
      refine wX2_digest_L109 l b0 x29 _ X hr hlk (fun μ44 H locs ls hf h hl => ?_) 10000 _ _ _ _ _ hf h (lv_sub hl [1, 2, 0] rfl)
      refine r_nmk hf (fun x45 ex hf => ?_)
      refine lv_iinc (v := x45) (lv' := [(1, .int x45), (0, .ref (ad b0))]) X.hx X.hb dX2_digest_136 hl (k := 1) rfl (by rw [ex]; rfl) (by decide) rfl (fun ls hl => ?_)
      clear ex
      refine lv_goto (tgt := 91) X.hx X.hb dX2_digest_139 (by decide) ?_
      exact ih _ _ _ _ _ hf h (lv_sub hl [1, 0] rfl)
def fX2_digest (μ0 : gM) (b0 : Nat) : gR := gpf μ0 b0 2 35 (.long 17) fun μ1 => fX2_digest_L9 b0 (fun (μ9 : gM) => gis μ9 b0 2 <| cV (fX2_mixPiano μ9 b0) fun μ10 => fX2_digest_L37 b0 (fun (μ28 : gM) => fX2_digest_L91 b0 (fun (μ46 : gM) => gJ (gfld μ46 b0 2 35) fun x47 => some (some (.long x47), μ46)) 10000 0 μ28) 10000 0 μ10) 10000 0 μ1
set_option maxHeartbeats 4000000 in
theorem wX2_digest (l : Launch) (Γ : gG) (ad : Nat → Nat) (μ0 : gM) (b0 : Nat) (r : Option Value × gM) (hf : fX2_digest μ0 b0 = some r) : gMt0 l Γ yX2_digest (ws_ yX2_digest cX2_digest 3 (some .long)) ({ frames := 4, cells := 0, slots := 0, locals := 89 } : Room) 0 0 ad μ0 [.ref (ad b0)] r := by
  intro sz
  refine g_start (maxL := 3) (ret := (some .long)) (by decide) rfl g_all (Nat.le_of_ble_eq_true rfl) ?_
  intro p e s m below meth c ls hr hlk hnm X h hl
  generalize gA ad μ0 sz = A at X h ⊢
  generalize ([.ref (ad b0)] : List Value).toArray = args at X ⊢
  have X : gX p m c cX2_digest 3 s args "SandPianoModel" Γ A := X
  have hl : lv_has ls 3 [(0, .ref (ad b0))] := hl
  show W p l e ({ frames := 4, cells := 0, slots := 0, locals := 89 } : Room) s m args below meth c s.heap [] 0 0 (MQ below (gQ0 Γ ad μ0.1 r A) args s 0 0 A) (F0 m 0 ls [])
  unfold fX2_digest at hf
  refine lv_aload_n X.hx X.hb dX2_digest_0 rfl (lv_at hl 0 rfl) ?_
  refine lv_ldc2 (v := 17) X.hx X.hb X.hown (X.hts _ q1532) dX2_digest_1 ?_
  refine r_put X h (ci := 2) (k := 35) (C := RX2) (T := TX2) (N := 36) (ty0 := tyX2) (ty := .long) (v := .long 17) rfl in_X2 tyX2_ok nmX2 (by decide) q1094 rfl rfl (by decide +kernel) rfl rfl (fun j hj => by cases hj) dX2_digest_4 hf (fun μ1 H locs hf h => ?_)
  refine lv_iconst (v := 0) X.hx X.hb dX2_digest_7 (by decide) ?_
  refine lv_istore_n (lv' := [(1, .int 0), (0, .ref (ad b0))]) X.hx X.hb dX2_digest_8 rfl hl (by decide) rfl (fun ls hl => ?_)
  refine wX2_digest_L9 l b0 _ X hr hlk (fun μ9 H locs ls hf h hl => ?_) 10000 _ _ _ _ _ hf h (lv_sub hl [1, 0] rfl)
  refine lv_aload_n X.hx X.hb dX2_digest_31 rfl (lv_at hl 0 rfl) ?_
  refine r_cVV (As := []) (rest := []) (C := RX2) (T := TX2) (N := 36) X h hf (fun res hres => wX2_mixPiano l Γ ad _ b0 res hres) rfl (cwV 0 X.hts (lw_V q1538 q1540 qs80 q84 q1541) rfl rfl rfl (by decide +kernel) ⟨Nat.le_of_ble_eq_true rfl, Nat.le_of_ble_eq_true rfl⟩) rfl ⟨hl.1, Nat.le_of_ble_eq_true rfl, Nat.le_of_ble_eq_true rfl, Nat.le_of_ble_eq_true rfl⟩ rfl dX2_digest_32 (fun μ10 H locs hf h => ?_)
  refine lv_iconst (v := 0) X.hx X.hb dX2_digest_35 (by decide) ?_
  refine lv_istore_n (lv' := [(1, .int 0), (0, .ref (ad b0))]) X.hx X.hb dX2_digest_36 rfl hl (by decide) rfl (fun ls hl => ?_)
  refine wX2_digest_L37 l b0 _ X hr hlk (fun μ28 H locs ls hf h hl => ?_) 10000 _ _ _ _ _ hf h (lv_sub hl [1, 0] rfl)
  refine lv_iconst (v := 0) X.hx X.hb dX2_digest_89 (by decide) ?_
  refine lv_istore_n (lv' := [(1, .int 0), (0, .ref (ad b0))]) X.hx X.hb dX2_digest_90 rfl hl (by decide) rfl (fun ls hl => ?_)
  refine wX2_digest_L91 l b0 _ X hr hlk (fun μ46 H locs ls hf h hl => ?_) 10000 _ _ _ _ _ hf h (lv_sub hl [1, 0] rfl)
  refine lv_aload_n X.hx X.hb dX2_digest_142 rfl (lv_at hl 0 rfl) ?_
  refine r_getJ X h (ci := 2) (k := 35) (C := RX2) (T := TX2) (N := 36) rfl in_X2 (by decide) q1094 rfl dX2_digest_143 hf (fun x47 hf => ?_)
  exact r_rl X h hr hlk (Nat.le_of_ble_eq_true rfl) (Nat.le_of_ble_eq_true rfl) dX2_digest_146 hf
/-! X2_firstAgainst -/
def fX2_firstAgainst_L2 (b0 : Nat) (a1 : Int32) (a2 : Int32) : Nat → Int32 → gM → gR
  | 0, _, _ => none
  | n3 + 1, x1, μ2 => gP (gfld μ2 b0 2 5) fun i4 => gaI μ2 0 i4 a2 fun x5 => if x5 ≤ x1 then (some (some (.int x1), μ2)) else (gis μ2 b0 2 <| cI (fX2_rowAt μ2 b0 a2 x1) fun x6 μ7 => gis μ7 b0 2 <| cI (fX2_canPlay μ7 b0 a1 x6) fun x8 μ9 => if x8 = 0 then (some (some (.int x1), μ9)) else (gis μ9 b0 2 <| cI (fX2_rowAt μ9 b0 a2 x1) fun x10 μ11 => gis μ11 b0 2 <| cV (fX2_plays μ11 b0 a1 x10) fun μ12 => gnm (x1 + 1) fun x13 => fX2_firstAgainst_L2 b0 a1 a2 n3 x13 μ12))
set_option maxHeartbeats 4000000 in
theorem wX2_firstAgainst_L2 {p : Program} {e : Env} {s : State} {m : MethodId} {args : Array Value} {below : List Frame} {meth : Method} {c : Code} {Γ : gG} {A : Nat → Prop} {nz : Nat} {ad : Nat → Nat} {r : Option Value × gM} (l : Launch) (b0 : Nat) (a1 : Int32) (a2 : Int32) (X : gX p m c cX2_firstAgainst 4 s args "SandPianoModel" Γ A) (hr : meth.sig.returnType = (some .int)) (hlk : meth.locks = false) : ∀ (n3 : Nat) (x1 : Int32) (μ2 : gM) (H : Heap) (locs : List Loc) (ls : Array Slot), fX2_firstAgainst_L2 b0 a1 a2 n3 x1 μ2 = some r → gWd Γ A nz ad μ2 s.heap H locs → lv_has ls 4 [(0, .ref (ad b0)), (1, .int a1), (2, .int a2), (3, .int x1)] → W p l e ({ frames := 3, cells := 0, slots := 0, locals := 70 } : Room) s m args below meth c H locs 0 0 (MQ below (gQ0 Γ ad nz r A) args s 0 0 A) (F0 m 2 ls []) := by
  intro n3
  induction n3 with
  | zero =>
    intro x1 μ2 H locs ls hf h hl
    have hf : (none : gR) = some r := hf
    cases hf
  | succ n3 ih =>
    intro x1 μ2 H locs ls hf h hl
    rw [fX2_firstAgainst_L2] at hf
    refine lv_iload_n X.hx X.hb dX2_firstAgainst_2 rfl (lv_at hl 3 rfl) ?_
    refine lv_aload_n X.hx X.hb dX2_firstAgainst_3 rfl (lv_at hl 0 rfl) ?_
    refine r_getP X h (ci := 2) (k := 5) (C := RX2) (T := TX2) (N := 36) rfl in_X2 (by decide) q1064 rfl dX2_firstAgainst_4 hf (fun i4 hf => ?_)
    refine lv_iload_n X.hx X.hb dX2_firstAgainst_7 rfl (lv_at hl 2 rfl) ?_
    refine r_iald X h dX2_firstAgainst_8 hf (fun x5 hf => ?_)
    refine lv_icmp_ge (tgt := 43) X.hx X.hb dX2_firstAgainst_9 (by decide) (fun hc => ?_) (fun hc => ?_)
    · replace hf := gif_t hf hc
      clear hc
      refine lv_iload_n X.hx X.hb dX2_firstAgainst_43 rfl (lv_at hl 3 rfl) ?_
      exact r_ri X h hr hlk (Nat.le_of_ble_eq_true rfl) (Nat.le_of_ble_eq_true rfl) dX2_firstAgainst_44 hf
    · replace hf := gif_f hf hc
      clear hc
      refine lv_aload_n X.hx X.hb dX2_firstAgainst_12 rfl (lv_at hl 0 rfl) ?_
      refine lv_iload_n X.hx X.hb dX2_firstAgainst_13 rfl (lv_at hl 1 rfl) ?_
      refine lv_aload_n X.hx X.hb dX2_firstAgainst_14 rfl (lv_at hl 0 rfl) ?_
      refine lv_iload_n X.hx X.hb dX2_firstAgainst_15 rfl (lv_at hl 2 rfl) ?_
      refine lv_iload_n X.hx X.hb dX2_firstAgainst_16 rfl (lv_at hl 3 rfl) ?_
      refine r_cVI (As := [.int a2, .int x1]) (rest := [.int a1, .ref (ad b0)]) (C := RX2) (T := TX2) (N := 36) X h hf (fun res hres => wX2_rowAt l Γ ad _ b0 a2 x1 res hres) rfl (cwV 2 X.hts (lw_V q1207 q1209 qs39 q84 q1210) rfl rfl rfl (by decide +kernel) ⟨Nat.le_of_ble_eq_true rfl, Nat.le_of_ble_eq_true rfl⟩) rfl ⟨hl.1, Nat.le_of_ble_eq_true rfl, Nat.le_of_ble_eq_true rfl, Nat.le_of_ble_eq_true rfl⟩ rfl dX2_firstAgainst_17 (fun x6 μ7 H locs hf h => ?_)
      refine r_cVI (As := [.int a1, .int x6]) (rest := []) (C := RX2) (T := TX2) (N := 36) X h hf (fun res hres => wX2_canPlay l Γ ad _ b0 a1 x6 res hres) rfl (cwV 2 X.hts (lw_V q1293 q1295 qs50 q84 q1296) rfl rfl rfl (by decide +kernel) ⟨Nat.le_of_ble_eq_true rfl, Nat.le_of_ble_eq_true rfl⟩) rfl ⟨hl.1, Nat.le_of_ble_eq_true rfl, Nat.le_of_ble_eq_true rfl, Nat.le_of_ble_eq_true rfl⟩ rfl dX2_firstAgainst_20 (fun x8 μ9 H locs hf h => ?_)
      refine lv_if_eq (tgt := 43) X.hx X.hb dX2_firstAgainst_23 (by decide) (fun hc => ?_) (fun hc => ?_)
      · replace hf := gif_t hf hc
        clear hc
        refine lv_iload_n X.hx X.hb dX2_firstAgainst_43 rfl (lv_at hl 3 rfl) ?_
        exact r_ri X h hr hlk (Nat.le_of_ble_eq_true rfl) (Nat.le_of_ble_eq_true rfl) dX2_firstAgainst_44 hf
      · replace hf := gif_f hf hc
        clear hc
        refine lv_aload_n X.hx X.hb dX2_firstAgainst_26 rfl (lv_at hl 0 rfl) ?_
        refine lv_iload_n X.hx X.hb dX2_firstAgainst_27 rfl (lv_at hl 1 rfl) ?_
        refine lv_aload_n X.hx X.hb dX2_firstAgainst_28 rfl (lv_at hl 0 rfl) ?_
        refine lv_iload_n X.hx X.hb dX2_firstAgainst_29 rfl (lv_at hl 2 rfl) ?_
        refine lv_iload_n X.hx X.hb dX2_firstAgainst_30 rfl (lv_at hl 3 rfl) ?_
        refine r_cVI (As := [.int a2, .int x1]) (rest := [.int a1, .ref (ad b0)]) (C := RX2) (T := TX2) (N := 36) X h hf (fun res hres => wX2_rowAt l Γ ad _ b0 a2 x1 res hres) rfl (cwV 2 X.hts (lw_V q1207 q1209 qs39 q84 q1210) rfl rfl rfl (by decide +kernel) ⟨Nat.le_of_ble_eq_true rfl, Nat.le_of_ble_eq_true rfl⟩) rfl ⟨hl.1, Nat.le_of_ble_eq_true rfl, Nat.le_of_ble_eq_true rfl, Nat.le_of_ble_eq_true rfl⟩ rfl dX2_firstAgainst_31 (fun x10 μ11 H locs hf h => ?_)
        refine r_cVV (As := [.int a1, .int x10]) (rest := []) (C := RX2) (T := TX2) (N := 36) X h hf (fun res hres => wX2_plays l Γ ad _ b0 a1 x10 res hres) rfl (cwV 2 X.hts (lw_V q1330 q1332 qs54 q84 q1333) rfl rfl rfl (by decide +kernel) ⟨Nat.le_of_ble_eq_true rfl, Nat.le_of_ble_eq_true rfl⟩) rfl ⟨hl.1, Nat.le_of_ble_eq_true rfl, Nat.le_of_ble_eq_true rfl, Nat.le_of_ble_eq_true rfl⟩ rfl dX2_firstAgainst_34 (fun μ12 H locs hf h => ?_)
        refine r_nmk hf (fun x13 ex hf => ?_)
        refine lv_iinc (v := x13) (lv' := [(3, .int x13), (0, .ref (ad b0)), (1, .int a1), (2, .int a2)]) X.hx X.hb dX2_firstAgainst_37 hl (k := 3) rfl (by rw [ex]; rfl) (by decide) rfl (fun ls hl => ?_)
        clear ex
        refine lv_goto (tgt := 2) X.hx X.hb dX2_firstAgainst_40 (by decide) ?_
        exact ih _ _ _ _ _ hf h (lv_sub hl [1, 2, 3, 0] rfl)
def fX2_firstAgainst (μ0 : gM) (b0 : Nat) (a1 : Int32) (a2 : Int32) : gR := fX2_firstAgainst_L2 b0 a1 a2 10000 0 μ0
set_option maxHeartbeats 4000000 in
theorem wX2_firstAgainst (l : Launch) (Γ : gG) (ad : Nat → Nat) (μ0 : gM) (b0 : Nat) (a1 : Int32) (a2 : Int32) (r : Option Value × gM) (hf : fX2_firstAgainst μ0 b0 a1 a2 = some r) : gMt0 l Γ yX2_firstAgainst (ws_ yX2_firstAgainst cX2_firstAgainst 4 (some .int)) ({ frames := 3, cells := 0, slots := 0, locals := 70 } : Room) 0 0 ad μ0 [.ref (ad b0), .int a1, .int a2] r := by
  intro sz
  refine g_start (maxL := 4) (ret := (some .int)) (by decide) rfl g_all (Nat.le_of_ble_eq_true rfl) ?_
  intro p e s m below meth c ls hr hlk hnm X h hl
  generalize gA ad μ0 sz = A at X h ⊢
  generalize ([.ref (ad b0), .int a1, .int a2] : List Value).toArray = args at X ⊢
  have X : gX p m c cX2_firstAgainst 4 s args "SandPianoModel" Γ A := X
  have hl : lv_has ls 4 [(0, .ref (ad b0)), (1, .int a1), (2, .int a2)] := hl
  show W p l e ({ frames := 3, cells := 0, slots := 0, locals := 70 } : Room) s m args below meth c s.heap [] 0 0 (MQ below (gQ0 Γ ad μ0.1 r A) args s 0 0 A) (F0 m 0 ls [])
  unfold fX2_firstAgainst at hf
  refine lv_iconst (v := 0) X.hx X.hb dX2_firstAgainst_0 (by decide) ?_
  refine lv_istore_n (lv' := [(3, .int 0), (0, .ref (ad b0)), (1, .int a1), (2, .int a2)]) X.hx X.hb dX2_firstAgainst_1 rfl hl (by decide) rfl (fun ls hl => ?_)
  refine wX2_firstAgainst_L2 l b0 a1 a2 X hr hlk 10000 _ _ _ _ _ hf h (lv_sub hl [1, 2, 3, 0] rfl)
