set_option maxRecDepth 100000
/-! X0_isRow -/
def fX0_isRow (μ0 : gM) (a1 : Int32) : gR := cI (fX0_isIn μ0 a1 0 5) fun x1 μ2 => rZ x1 μ2
set_option maxHeartbeats 4000000 in
theorem wX0_isRow (l : Launch) (Γ : gG) (ad : Nat → Nat) (μ0 : gM) (a1 : Int32) (r : Option Value × gM) (hf : fX0_isRow μ0 a1 = some r) : gMt0 l Γ yX0_isRow (ws_ yX0_isRow cX0_isRow 1 (some .boolean)) ({ frames := 1, cells := 0, slots := 0, locals := 22 } : Room) 0 0 ad μ0 [.int a1] r := by
  intro sz
  refine g_start (maxL := 1) (ret := (some .boolean)) (by decide) rfl g_all (Nat.le_of_ble_eq_true rfl) ?_
  intro p e s m below meth c ls hr hlk hnm X h hl
  generalize gA ad μ0 sz = A at X h ⊢
  generalize ([.int a1] : List Value).toArray = args at X ⊢
  have X : gX p m c cX0_isRow 1 s args "SandPiano" Γ A := X
  have hl : lv_has ls 1 [(0, .int a1)] := hl
  show W p l e ({ frames := 1, cells := 0, slots := 0, locals := 22 } : Room) s m args below meth c s.heap [] 0 0 (MQ below (gQ0 Γ ad μ0.1 r A) args s 0 0 A) (F0 m 0 ls [])
  unfold fX0_isRow at hf
  refine lv_iload_n X.hx X.hb dX0_isRow_0 rfl (lv_at hl 0 rfl) ?_
  refine lv_iconst (v := 0) X.hx X.hb dX0_isRow_1 (by decide) ?_
  refine lv_iconst (v := 5) X.hx X.hb dX0_isRow_2 (by decide) ?_
  refine r_cSI (As := [.int a1, .int 0, .int 5]) (rest := []) X h hf (fun res hres => wX0_isIn l Γ ad _ a1 0 5 res hres) (va_cwS 3 X.hts (lw_S q344 q345 q82 q346) rfl rfl rfl (by decide +kernel) ⟨Nat.le_of_ble_eq_true rfl, Nat.le_of_ble_eq_true rfl⟩) rfl ⟨hl.1, Nat.le_of_ble_eq_true rfl, Nat.le_of_ble_eq_true rfl, Nat.le_of_ble_eq_true rfl⟩ rfl dX0_isRow_3 (fun x1 μ2 H locs hf h => ?_)
  exact r_rz X h hr hlk (Nat.le_of_ble_eq_true rfl) (Nat.le_of_ble_eq_true rfl) dX0_isRow_6 hf
/-! X0_at -/
def fX0_at (μ0 : gM) (b0 : Nat) (a1 : Int32) (a2 : Int32) : gR := cI (fX0_isRow μ0 a1) fun x1 μ2 => if x1 = 0 then (some (some (.int (-1)), μ2)) else (gP (gfld μ2 b0 0 5) fun i3 => gaQ μ2 3 i3 a1 fun o4 => tald μ2 0 o4 a2 (gis μ2 b0 0 <| cI (fX0_found μ2 b0 1) fun x6 μ7 => some (some (.int x6), μ7)) (gis μ2 b0 0 <| cI (fX0_found μ2 b0 2) fun x8 μ9 => some (some (.int x8), μ9)) fun x5 => gis μ2 b0 0 <| cI (fX0_ask μ2 b0 x5 1) fun x10 μ11 => some (some (.int x10), μ11))
set_option maxHeartbeats 4000000 in
theorem wX0_at (l : Launch) (Γ : gG) (hst : l.stackTraces = false) (ad : Nat → Nat) (μ0 : gM) (b0 : Nat) (a1 : Int32) (a2 : Int32) (r : Option Value × gM) (hf : fX0_at μ0 b0 a1 a2 = some r) : gMtE0 l Γ yX0_at (wsW_ yX0_at cX0_at 4 (some .int) [(9, 22, 23, 126), (9, 22, 30, 128)]) ({ frames := 9, cells := 3, slots := 222, locals := 10248 } : Room) 3 222 ad μ0 [.ref (ad b0), .int a1, .int a2] r := by
  intro sz
  refine g_startW hst (maxL := 4) (ret := (some .int)) (by decide) rfl g_allW (Nat.le_of_ble_eq_true rfl) ?_
  intro p e s m below meth c ls hr hlk hnm X Y h hl
  generalize gA ad μ0 sz = A at X Y h ⊢
  generalize ([.ref (ad b0), .int a1, .int a2] : List Value).toArray = args at X ⊢
  have X : gX p m c cX0_at 4 s args "SandPiano" Γ A := X
  have hl : lv_has ls 4 [(0, .ref (ad b0)), (1, .int a1), (2, .int a2)] := hl
  show W p l e ({ frames := 9, cells := 3, slots := 222, locals := 10248 } : Room) s m args below meth c s.heap [] 0 0 (MQ below (gQ0 Γ ad μ0.1 r A) args s 3 222 A) (F0 m 0 ls [])
  unfold fX0_at at hf
  refine lv_iload_n X.hx X.hb dX0_at_0 rfl (lv_at hl 1 rfl) ?_
  refine r_cSI (As := [.int a1]) (rest := []) X h hf (fun res hres => wX0_isRow l Γ ad _ a1 res hres) (va_cwS 1 X.hts (lw_S q341 q342 q82 q343) rfl rfl rfl (by decide +kernel) ⟨Nat.le_of_ble_eq_true rfl, Nat.le_of_ble_eq_true rfl⟩) rfl ⟨hl.1, Nat.le_of_ble_eq_true rfl, Nat.le_of_ble_eq_true rfl, Nat.le_of_ble_eq_true rfl⟩ rfl dX0_at_1 (fun x1 μ2 H locs hf h => ?_)
  refine lv_if_ne (tgt := 9) X.hx X.hb dX0_at_4 (by decide) (fun hc => ?_) (fun hc => ?_)
  · replace hf := gif_f hf hc
    clear hc
    refine lv_aload_n X.hx X.hb dX0_at_9 rfl (lv_at hl 0 rfl) ?_
    refine lv_aload_n X.hx X.hb dX0_at_10 rfl (lv_at hl 0 rfl) ?_
    refine r_getP X h (ci := 0) (k := 5) (C := RX0) (T := TX0) (N := 36) rfl in_X0 (by decide) q146 rfl dX0_at_11 hf (fun i3 hf => ?_)
    refine lv_iload_n X.hx X.hb dX0_at_14 rfl (lv_at hl 1 rfl) ?_
    refine r_aald X h (t := 3) rfl rfl dX0_at_15 hf (fun o4 hf => ?_)
    refine lv_iload_n X.hx X.hb dX0_at_16 rfl (lv_at hl 2 rfl) ?_
    refine r_tiald (q := o4) (rest := [.ref (ad b0)]) X Y h ⟨hl.1, Nat.le_of_ble_eq_true rfl, Nat.le_of_ble_eq_true rfl, Nat.le_of_ble_eq_true rfl⟩ ⟨Nat.le_of_ble_eq_true rfl, Nat.le_of_ble_eq_true rfl⟩ ⟨0, 9, 22, 126, "java/lang/NullPointerException", rfl, by decide, by decide, by decide, q359, List.contains_iff_mem.mp (by decide +kernel), x_pre0⟩ ⟨1, 9, 22, 128, "java/lang/ArrayIndexOutOfBoundsException", rfl, by decide, by decide, by decide, q384, List.contains_iff_mem.mp (by decide +kernel), (x_preM (name := "java/lang/NullPointerException") (by decide) (by decide) (by decide) q359 (by decide +kernel) x_pre0)⟩ dX0_at_17 hf (fun hf v H locs h => ?_) (fun hf v H locs h => ?_) (fun x5 hf => ?_)
    · refine lv_astore_n (lv' := [(3, .ref v), (0, .ref (ad b0)), (1, .int a1), (2, .int a2)]) X.hx X.hb dX0_at_23 rfl hl (by decide) rfl (fun ls hl => ?_)
      replace hl := lv_sub hl [1, 2, 3] rfl
      have hl : lv_has ls 4 [(0, .ref (ad b0)), (1, .int a1), (2, .int a2)] := hl
      refine lv_aload_n X.hx X.hb dX0_at_24 rfl (lv_at hl 0 rfl) ?_
      refine lv_iconst (v := 1) X.hx X.hb dX0_at_25 (by decide) ?_
      refine r_cVI (As := [.int 1]) (rest := []) (C := RX0) (T := TX0) (N := 36) X h hf (fun res hres => wX0_found l Γ ad _ b0 1 res hres) rfl (cwV 1 X.hts (lw_V q347 q349 qs2 q82 q350) rfl rfl rfl (by decide +kernel) ⟨Nat.le_of_ble_eq_true rfl, Nat.le_of_ble_eq_true rfl⟩) rfl ⟨hl.1, Nat.le_of_ble_eq_true rfl, Nat.le_of_ble_eq_true rfl, Nat.le_of_ble_eq_true rfl⟩ rfl dX0_at_26 (fun x6 μ7 H locs hf h => ?_)
      exact r_ri X h hr hlk (Nat.le_of_ble_eq_true rfl) (Nat.le_of_ble_eq_true rfl) dX0_at_29 hf
    · refine lv_astore_n (lv' := [(3, .ref v), (0, .ref (ad b0)), (1, .int a1), (2, .int a2)]) X.hx X.hb dX0_at_30 rfl hl (by decide) rfl (fun ls hl => ?_)
      replace hl := lv_sub hl [1, 2, 3] rfl
      have hl : lv_has ls 4 [(0, .ref (ad b0)), (1, .int a1), (2, .int a2)] := hl
      refine lv_aload_n X.hx X.hb dX0_at_31 rfl (lv_at hl 0 rfl) ?_
      refine lv_iconst (v := 2) X.hx X.hb dX0_at_32 (by decide) ?_
      refine r_cVI (As := [.int 2]) (rest := []) (C := RX0) (T := TX0) (N := 36) X h hf (fun res hres => wX0_found l Γ ad _ b0 2 res hres) rfl (cwV 1 X.hts (lw_V q347 q349 qs2 q82 q350) rfl rfl rfl (by decide +kernel) ⟨Nat.le_of_ble_eq_true rfl, Nat.le_of_ble_eq_true rfl⟩) rfl ⟨hl.1, Nat.le_of_ble_eq_true rfl, Nat.le_of_ble_eq_true rfl, Nat.le_of_ble_eq_true rfl⟩ rfl dX0_at_33 (fun x8 μ9 H locs hf h => ?_)
      exact r_ri X h hr hlk (Nat.le_of_ble_eq_true rfl) (Nat.le_of_ble_eq_true rfl) dX0_at_36 hf
    refine lv_iconst (v := 1) X.hx X.hb dX0_at_18 (by decide) ?_
    refine r_cVI (As := [.int x5, .int 1]) (rest := []) (C := RX0) (T := TX0) (N := 36) X h hf (fun res hres => wX0_ask l Γ ad _ b0 x5 1 res hres) rfl (cwV 2 X.hts (lw_V q403 q405 qs3 q82 q406) rfl rfl rfl (by decide +kernel) ⟨Nat.le_of_ble_eq_true rfl, Nat.le_of_ble_eq_true rfl⟩) rfl ⟨hl.1, Nat.le_of_ble_eq_true rfl, Nat.le_of_ble_eq_true rfl, Nat.le_of_ble_eq_true rfl⟩ rfl dX0_at_19 (fun x10 μ11 H locs hf h => ?_)
    exact r_ri X h hr hlk (Nat.le_of_ble_eq_true rfl) (Nat.le_of_ble_eq_true rfl) dX0_at_22 hf
  · replace hf := gif_t hf hc
    clear hc
    refine lv_iconst (v := (-1)) X.hx X.hb dX0_at_7 (by decide) ?_
    exact r_ri X h hr hlk (Nat.le_of_ble_eq_true rfl) (Nat.le_of_ble_eq_true rfl) dX0_at_8 hf
/-! X3_left -/
def fX3_left (μ0 : gM) (b0 : Nat) : gR := gI (gkld μ0 b0 0) fun x1 => if x1 = 0 then (some (some (.int 6), μ0)) else (gI (gkld μ0 b0 0) fun x2 => some (some (.int (x2 - 1)), μ0))
set_option maxHeartbeats 4000000 in
theorem wX3_left (l : Launch) (Γ : gG) (ad : Nat → Nat) (μ0 : gM) (b0 : Nat) (r : Option Value × gM) (hf : fX3_left μ0 b0 = some r) : gMt0 l Γ yX3_left (ws_ yX3_left cX3_left 1 (some .int)) ({ frames := 0, cells := 0, slots := 0, locals := 0 } : Room) 0 0 ad μ0 [.ref (ad b0)] r := by
  intro sz
  refine g_start (maxL := 1) (ret := (some .int)) (by decide) rfl g_all (Nat.le_of_ble_eq_true rfl) ?_
  intro p e s m below meth c ls hr hlk hnm X h hl
  generalize gA ad μ0 sz = A at X h ⊢
  generalize ([.ref (ad b0)] : List Value).toArray = args at X ⊢
  have X : gX p m c cX3_left 1 s args "SandPiano$Key" Γ A := X
  have hl : lv_has ls 1 [(0, .ref (ad b0))] := hl
  show W p l e ({ frames := 0, cells := 0, slots := 0, locals := 0 } : Room) s m args below meth c s.heap [] 0 0 (MQ below (gQ0 Γ ad μ0.1 r A) args s 0 0 A) (F0 m 0 ls [])
  unfold fX3_left at hf
  refine lv_aload_n X.hx X.hb dX3_left_0 rfl (lv_at hl 0 rfl) ?_
  refine r_getK X h (k := 0) (by decide) q489 rfl dX3_left_1 hf (fun x1 hf => ?_)
  refine lv_if_ne (tgt := 12) X.hx X.hb dX3_left_4 (by decide) (fun hc => ?_) (fun hc => ?_)
  · replace hf := gif_f hf hc
    clear hc
    refine lv_aload_n X.hx X.hb dX3_left_12 rfl (lv_at hl 0 rfl) ?_
    refine r_getK X h (k := 0) (by decide) q489 rfl dX3_left_13 hf (fun x2 hf => ?_)
    refine lv_iconst (v := 1) X.hx X.hb dX3_left_16 (by decide) ?_
    refine lv_isub X.hx X.hb dX3_left_17 ?_
    exact r_ri X h hr hlk (Nat.le_of_ble_eq_true rfl) (Nat.le_of_ble_eq_true rfl) dX3_left_18 hf
  · replace hf := gif_t hf hc
    clear hc
    refine lv_bipush (v := 6) X.hx X.hb dX3_left_7 (by decide) ?_
    refine lv_goto (tgt := 18) X.hx X.hb dX3_left_9 (by decide) ?_
    exact r_ri X h hr hlk (Nat.le_of_ble_eq_true rfl) (Nat.le_of_ble_eq_true rfl) dX3_left_18 hf
/-! X3_place -/
def fX3_place (μ0 : gM) (b0 : Nat) : gR := gI (gkld μ0 b0 0) fun x1 => some (some (.int x1), μ0)
set_option maxHeartbeats 4000000 in
theorem wX3_place (l : Launch) (Γ : gG) (ad : Nat → Nat) (μ0 : gM) (b0 : Nat) (r : Option Value × gM) (hf : fX3_place μ0 b0 = some r) : gMt0 l Γ yX3_place (ws_ yX3_place cX3_place 1 (some .int)) ({ frames := 0, cells := 0, slots := 0, locals := 0 } : Room) 0 0 ad μ0 [.ref (ad b0)] r := by
  intro sz
  refine g_start (maxL := 1) (ret := (some .int)) (by decide) rfl g_all (Nat.le_of_ble_eq_true rfl) ?_
  intro p e s m below meth c ls hr hlk hnm X h hl
  generalize gA ad μ0 sz = A at X h ⊢
  generalize ([.ref (ad b0)] : List Value).toArray = args at X ⊢
  have X : gX p m c cX3_place 1 s args "SandPiano$Key" Γ A := X
  have hl : lv_has ls 1 [(0, .ref (ad b0))] := hl
  show W p l e ({ frames := 0, cells := 0, slots := 0, locals := 0 } : Room) s m args below meth c s.heap [] 0 0 (MQ below (gQ0 Γ ad μ0.1 r A) args s 0 0 A) (F0 m 0 ls [])
  unfold fX3_place at hf
  refine lv_aload_n X.hx X.hb dX3_place_0 rfl (lv_at hl 0 rfl) ?_
  refine r_getK X h (k := 0) (by decide) q489 rfl dX3_place_1 hf (fun x1 hf => ?_)
  exact r_ri X h hr hlk (Nat.le_of_ble_eq_true rfl) (Nat.le_of_ble_eq_true rfl) dX3_place_4 hf
/-! J10_min -/
def fJ10_min (μ0 : gM) (a1 : Int32) (a2 : Int32) : gR := if a2 < a1 then (some (some (.int a2), μ0)) else (some (some (.int a1), μ0))
set_option maxHeartbeats 4000000 in
theorem wJ10_min (l : Launch) (Γ : gG) (ad : Nat → Nat) (μ0 : gM) (a1 : Int32) (a2 : Int32) (r : Option Value × gM) (hf : fJ10_min μ0 a1 a2 = some r) : gMt0 l Γ yJ10_min (ws_ yJ10_min cJ10_min 2 (some .int)) ({ frames := 0, cells := 0, slots := 0, locals := 0 } : Room) 0 0 ad μ0 [.int a1, .int a2] r := by
  intro sz
  refine g_startF (maxL := 2) (ret := (some .int)) (by decide +kernel) rfl g_all (Nat.le_of_ble_eq_true rfl) ?_
  intro p e s m below meth c ls hr hlk hnm X h hl
  generalize gA ad μ0 sz = A at X h ⊢
  generalize ([.int a1, .int a2] : List Value).toArray = args at X ⊢
  have X : gX p m c cJ10_min 2 s args "java/lang/Math" Γ A := X
  have hl : lv_has ls 2 [(0, .int a1), (1, .int a2)] := hl
  show W p l e ({ frames := 0, cells := 0, slots := 0, locals := 0 } : Room) s m args below meth c s.heap [] 0 0 (MQ below (gQ0 Γ ad μ0.1 r A) args s 0 0 A) (F0 m 0 ls [])
  unfold fJ10_min at hf
  refine lv_iload_n X.hx X.hb dJ10_min_0 rfl (lv_at hl 0 rfl) ?_
  refine lv_iload_n X.hx X.hb dJ10_min_1 rfl (lv_at hl 1 rfl) ?_
  refine lv_icmp_gt (tgt := 9) X.hx X.hb dJ10_min_2 (by decide) (fun hc => ?_) (fun hc => ?_)
  · replace hf := gif_t hf hc
    clear hc
    refine lv_iload_n X.hx X.hb dJ10_min_9 rfl (lv_at hl 1 rfl) ?_
    exact r_ri X h hr hlk (Nat.le_of_ble_eq_true rfl) (Nat.le_of_ble_eq_true rfl) dJ10_min_10 hf
  · replace hf := gif_f hf hc
    clear hc
    refine lv_iload_n X.hx X.hb dJ10_min_5 rfl (lv_at hl 0 rfl) ?_
    refine lv_goto (tgt := 10) X.hx X.hb dJ10_min_6 (by decide) ?_
    exact r_ri X h hr hlk (Nat.le_of_ble_eq_true rfl) (Nat.le_of_ble_eq_true rfl) dJ10_min_10 hf
/-! X1_move -/
def fX1_move (μ0 : gM) (b0 : Nat) (a1 : Int32) (a2 : Int32) (a3 : Int32) : gR := gP (gfld μ0 b0 1 0) fun i1 => gaI μ0 0 i1 a1 fun x2 => cI (fJ10_min μ0 a3 x2) fun x3 μ4 => gP (gfld μ4 b0 1 0) fun i5 => gaI μ4 0 i5 a1 fun x6 => gsI μ4 0 i5 a1 (x6 - x3) fun μ7 => gP (gfld μ7 b0 1 0) fun i8 => gaI μ7 0 i8 a2 fun x9 => gsI μ7 0 i8 a2 (x9 + x3) fun μ10 => some (some (.int x3), μ10)
set_option maxHeartbeats 4000000 in
theorem wX1_move (l : Launch) (Γ : gG) (ad : Nat → Nat) (μ0 : gM) (b0 : Nat) (a1 : Int32) (a2 : Int32) (a3 : Int32) (r : Option Value × gM) (hf : fX1_move μ0 b0 a1 a2 a3 = some r) : gMt0 l Γ yX1_move (ws_ yX1_move cX1_move 5 (some .int)) ({ frames := 1, cells := 0, slots := 0, locals := 21 } : Room) 0 0 ad μ0 [.ref (ad b0), .int a1, .int a2, .int a3] r := by
  intro sz
  refine g_start (maxL := 5) (ret := (some .int)) (by decide) rfl g_all (Nat.le_of_ble_eq_true rfl) ?_
  intro p e s m below meth c ls hr hlk hnm X h hl
  generalize gA ad μ0 sz = A at X h ⊢
  generalize ([.ref (ad b0), .int a1, .int a2, .int a3] : List Value).toArray = args at X ⊢
  have X : gX p m c cX1_move 5 s args "SandPiano$Sands" Γ A := X
  have hl : lv_has ls 5 [(0, .ref (ad b0)), (1, .int a1), (2, .int a2), (3, .int a3)] := hl
  show W p l e ({ frames := 1, cells := 0, slots := 0, locals := 21 } : Room) s m args below meth c s.heap [] 0 0 (MQ below (gQ0 Γ ad μ0.1 r A) args s 0 0 A) (F0 m 0 ls [])
  unfold fX1_move at hf
  refine lv_iload_n X.hx X.hb dX1_move_0 rfl (lv_at hl 3 rfl) ?_
  refine lv_aload_n X.hx X.hb dX1_move_1 rfl (lv_at hl 0 rfl) ?_
  refine r_getP X h (ci := 1) (k := 0) (C := RX1) (T := TX1) (N := 1) rfl in_X1 (by decide) q125 rfl dX1_move_2 hf (fun i1 hf => ?_)
  refine lv_iload_n X.hx X.hb dX1_move_5 rfl (lv_at hl 1 rfl) ?_
  refine r_iald X h dX1_move_6 hf (fun x2 hf => ?_)
  refine r_cSI (As := [.int a3, .int x2]) (rest := []) X h hf (fun res hres => wJ10_min l Γ ad _ a3 x2 res hres) (va_cwS 2 X.hts (lw_S q741 q655 q102 q656) rfl rfl rfl (by decide +kernel) ⟨Nat.le_of_ble_eq_true rfl, Nat.le_of_ble_eq_true rfl⟩) rfl ⟨hl.1, Nat.le_of_ble_eq_true rfl, Nat.le_of_ble_eq_true rfl, Nat.le_of_ble_eq_true rfl⟩ rfl dX1_move_7 (fun x3 μ4 H locs hf h => ?_)
  refine lv_istore (lv' := [(4, .int x3), (0, .ref (ad b0)), (1, .int a1), (2, .int a2), (3, .int a3)]) X.hx X.hb dX1_move_10 hl (by decide) rfl (fun ls hl => ?_)
  refine lv_aload_n X.hx X.hb dX1_move_12 rfl (lv_at hl 1 rfl) ?_
  refine r_getP X h (ci := 1) (k := 0) (C := RX1) (T := TX1) (N := 1) rfl in_X1 (by decide) q125 rfl dX1_move_13 hf (fun i5 hf => ?_)
  refine lv_iload_n X.hx X.hb dX1_move_16 rfl (lv_at hl 2 rfl) ?_
  refine lv_dup2_11 X.hx X.hb dX1_move_17 rfl rfl ?_
  refine r_iald X h dX1_move_18 hf (fun x6 hf => ?_)
  refine lv_iload X.hx X.hb dX1_move_19 (lv_at hl 0 rfl) ?_
  refine lv_isub X.hx X.hb dX1_move_21 ?_
  refine r_iast X h dX1_move_22 hf (fun μ7 H locs hf h => ?_)
  refine lv_aload_n X.hx X.hb dX1_move_23 rfl (lv_at hl 1 rfl) ?_
  refine r_getP X h (ci := 1) (k := 0) (C := RX1) (T := TX1) (N := 1) rfl in_X1 (by decide) q125 rfl dX1_move_24 hf (fun i8 hf => ?_)
  refine lv_iload_n X.hx X.hb dX1_move_27 rfl (lv_at hl 3 rfl) ?_
  refine lv_dup2_11 X.hx X.hb dX1_move_28 rfl rfl ?_
  refine r_iald X h dX1_move_29 hf (fun x9 hf => ?_)
  refine lv_iload X.hx X.hb dX1_move_30 (lv_at hl 0 rfl) ?_
  refine lv_iadd X.hx X.hb dX1_move_32 ?_
  refine r_iast X h dX1_move_33 hf (fun μ10 H locs hf h => ?_)
  refine lv_iload X.hx X.hb dX1_move_34 (lv_at hl 0 rfl) ?_
  exact r_ri X h hr hlk (Nat.le_of_ble_eq_true rfl) (Nat.le_of_ble_eq_true rfl) dX1_move_36 hf
/-! X4_throwSand -/
def vX4_place (μ : gM) (i : Nat) : gR := gkc μ i fun c => if c = 4 then fX3_place μ i else if c = 7 then fX3_place μ i else none
set_option maxHeartbeats 4000000 in
theorem wvX4_place {p : Program} {l : Launch} {e : Env} {R : Room} {s : State} {m : MethodId} {args : Array Value} {below : List Frame} {meth : Method} {c : Code} {H : Heap} {locs : List Loc} {cells slots : Nat} {Q : State → Prop} {cc : ByteArray} {pc nL : Nat} {ls : Array Slot} {rest st0 : List Value} {own : String} {Γ : gG} {A : Nat → Prop} {nz : Nat} {ad : Nat → Nat} {μ : gM} {r : Option Value × gM} {i index : Nat} {kt : Int32 → gM → gR} (X : gX p m c cc nL s args own Γ A) (h : gWd Γ A nz ad μ s.heap H locs) (hl : Cond.methodLink own index ⟨"SandPiano$Bass", "place", "()I"⟩ ∈ lw_all) (hF : 1 ≤ R.frames) (hL : 20 ≤ R.locals) (hg : gSt m ls nL R cells slots 0 0 rest) (hst : st0 = ([] : List Value).reverse ++ .ref (ad i) :: rest) (d : decode cc pc = .ok (.invokevirtual index, 3)) (hf : cI (vX4_place μ i) kt = some r)
    (kk : ∀ (x : Int32) (μ1 : gM) (H1 : Heap) (locs1 : List Loc), kt x μ1 = some r → gWd Γ A nz ad μ1 s.heap H1 locs1 → W p l e R s m args below meth c H1 locs1 cells slots Q (F0 m (pc + 3) ls (.int x :: rest))) : W p l e R s m args below meth c H locs cells slots Q (F0 m pc ls st0) := by
  obtain ⟨x, μ1, ho, hf⟩ := cI_some hf
  obtain ⟨ci, fs, he, ho⟩ := gkc_some ho
  by_cases hc4 : ci = 4
  · subst hc4
    rw [if_pos rfl] at ho
    exact r_back0 X h (g_runU (As := []) X h he (wX3_place l Γ ad μ i _ ho _) (T := TX4) rfl (va_cwU (owner := "SandPiano$Key") (x := ⟨"SandPiano$Bass", "place", "()I"⟩) 0 X.hts (lw_U hl q648 q650 q652 q95 q653) rfl rfl rfl rfl (by decide +kernel) ⟨Nat.le_trans (Nat.le_of_ble_eq_true rfl) hF, Nat.le_trans (Nat.le_of_ble_eq_true rfl) hL⟩) rfl hg hst d) (fun H1 locs1 h1 => kk x μ1 H1 locs1 hf h1)
  rw [if_neg hc4] at ho
  by_cases hc7 : ci = 7
  · subst hc7
    rw [if_pos rfl] at ho
    exact r_back0 X h (g_runU (As := []) X h he (wX3_place l Γ ad μ i _ ho _) (T := TX7) rfl (va_cwU (owner := "SandPiano$Key") (x := ⟨"SandPiano$Bass", "place", "()I"⟩) 0 X.hts (lw_U hl q648 q651 q652 q95 q653) rfl rfl rfl rfl (by decide +kernel) ⟨Nat.le_trans (Nat.le_of_ble_eq_true rfl) hF, Nat.le_trans (Nat.le_of_ble_eq_true rfl) hL⟩) rfl hg hst d) (fun H1 locs1 h1 => kk x μ1 H1 locs1 hf h1)
  rw [if_neg hc7] at ho
  cases ho
def vX4_left (μ : gM) (i : Nat) : gR := gkc μ i fun c => if c = 4 then fX3_left μ i else if c = 7 then fX3_left μ i else none
set_option maxHeartbeats 4000000 in
theorem wvX4_left {p : Program} {l : Launch} {e : Env} {R : Room} {s : State} {m : MethodId} {args : Array Value} {below : List Frame} {meth : Method} {c : Code} {H : Heap} {locs : List Loc} {cells slots : Nat} {Q : State → Prop} {cc : ByteArray} {pc nL : Nat} {ls : Array Slot} {rest st0 : List Value} {own : String} {Γ : gG} {A : Nat → Prop} {nz : Nat} {ad : Nat → Nat} {μ : gM} {r : Option Value × gM} {i index : Nat} {kt : Int32 → gM → gR} (X : gX p m c cc nL s args own Γ A) (h : gWd Γ A nz ad μ s.heap H locs) (hl : Cond.methodLink own index ⟨"SandPiano$Bass", "left", "()I"⟩ ∈ lw_all) (hF : 1 ≤ R.frames) (hL : 20 ≤ R.locals) (hg : gSt m ls nL R cells slots 0 0 rest) (hst : st0 = ([] : List Value).reverse ++ .ref (ad i) :: rest) (d : decode cc pc = .ok (.invokevirtual index, 3)) (hf : cI (vX4_left μ i) kt = some r)
    (kk : ∀ (x : Int32) (μ1 : gM) (H1 : Heap) (locs1 : List Loc), kt x μ1 = some r → gWd Γ A nz ad μ1 s.heap H1 locs1 → W p l e R s m args below meth c H1 locs1 cells slots Q (F0 m (pc + 3) ls (.int x :: rest))) : W p l e R s m args below meth c H locs cells slots Q (F0 m pc ls st0) := by
  obtain ⟨x, μ1, ho, hf⟩ := cI_some hf
  obtain ⟨ci, fs, he, ho⟩ := gkc_some ho
  by_cases hc4 : ci = 4
  · subst hc4
    rw [if_pos rfl] at ho
    exact r_back0 X h (g_runU (As := []) X h he (wX3_left l Γ ad μ i _ ho _) (T := TX4) rfl (va_cwU (owner := "SandPiano$Key") (x := ⟨"SandPiano$Bass", "left", "()I"⟩) 0 X.hts (lw_U hl q734 q735 q683 q95 q684) rfl rfl rfl rfl (by decide +kernel) ⟨Nat.le_trans (Nat.le_of_ble_eq_true rfl) hF, Nat.le_trans (Nat.le_of_ble_eq_true rfl) hL⟩) rfl hg hst d) (fun H1 locs1 h1 => kk x μ1 H1 locs1 hf h1)
  rw [if_neg hc4] at ho
  by_cases hc7 : ci = 7
  · subst hc7
    rw [if_pos rfl] at ho
    exact r_back0 X h (g_runU (As := []) X h he (wX3_left l Γ ad μ i _ ho _) (T := TX7) rfl (va_cwU (owner := "SandPiano$Key") (x := ⟨"SandPiano$Bass", "left", "()I"⟩) 0 X.hts (lw_U hl q734 q736 q683 q95 q684) rfl rfl rfl rfl (by decide +kernel) ⟨Nat.le_trans (Nat.le_of_ble_eq_true rfl) hF, Nat.le_trans (Nat.le_of_ble_eq_true rfl) hL⟩) rfl hg hst d) (fun H1 locs1 h1 => kk x μ1 H1 locs1 hf h1)
  rw [if_neg hc7] at ho
  cases ho
def fX4_throwSand (μ0 : gM) (b0 : Nat) (b1 : Nat) (a2 : Int32) : gR := cI (vX4_place μ0 b0) fun x1 μ2 => cI (vX4_left μ2 b0) fun x3 μ4 => gis μ4 b1 1 <| cI (fX1_move μ4 b1 x1 x3 2) fun x5 μ6 => some (none, μ6)
set_option maxHeartbeats 4000000 in
theorem wX4_throwSand (l : Launch) (Γ : gG) (ad : Nat → Nat) (μ0 : gM) (b0 : Nat) (b1 : Nat) (a2 : Int32) (r : Option Value × gM) (hf : fX4_throwSand μ0 b0 b1 a2 = some r) : gMt0 l Γ yX4_throwSand (ws_ yX4_throwSand cX4_throwSand 3 none) ({ frames := 2, cells := 0, slots := 0, locals := 45 } : Room) 0 0 ad μ0 [.ref (ad b0), .ref (ad b1), .int a2] r := by
  intro sz
  refine g_start (maxL := 3) (ret := none) (by decide) rfl g_all (Nat.le_of_ble_eq_true rfl) ?_
  intro p e s m below meth c ls hr hlk hnm X h hl
  generalize gA ad μ0 sz = A at X h ⊢
  generalize ([.ref (ad b0), .ref (ad b1), .int a2] : List Value).toArray = args at X ⊢
  have X : gX p m c cX4_throwSand 3 s args "SandPiano$Bass" Γ A := X
  have hl : lv_has ls 3 [(0, .ref (ad b0)), (1, .ref (ad b1)), (2, .int a2)] := hl
  show W p l e ({ frames := 2, cells := 0, slots := 0, locals := 45 } : Room) s m args below meth c s.heap [] 0 0 (MQ below (gQ0 Γ ad μ0.1 r A) args s 0 0 A) (F0 m 0 ls [])
  unfold fX4_throwSand at hf
  refine lv_aload_n X.hx X.hb dX4_throwSand_0 rfl (lv_at hl 1 rfl) ?_
  refine lv_aload_n X.hx X.hb dX4_throwSand_1 rfl (lv_at hl 0 rfl) ?_
  refine wvX4_place X h q647 (Nat.le_of_ble_eq_true rfl) (Nat.le_of_ble_eq_true rfl) (rest := [.ref (ad b1)]) ⟨hl.1, Nat.le_of_ble_eq_true rfl, Nat.le_of_ble_eq_true rfl, Nat.le_of_ble_eq_true rfl⟩ rfl dX4_throwSand_2 hf (fun x1 μ2 H locs hf h => ?_)
  refine lv_aload_n X.hx X.hb dX4_throwSand_5 rfl (lv_at hl 0 rfl) ?_
  refine wvX4_left X h q733 (Nat.le_of_ble_eq_true rfl) (Nat.le_of_ble_eq_true rfl) (rest := [.int x1, .ref (ad b1)]) ⟨hl.1, Nat.le_of_ble_eq_true rfl, Nat.le_of_ble_eq_true rfl, Nat.le_of_ble_eq_true rfl⟩ rfl dX4_throwSand_6 hf (fun x3 μ4 H locs hf h => ?_)
  refine lv_iconst (v := 2) X.hx X.hb dX4_throwSand_9 (by decide) ?_
  refine r_cVI (As := [.int x1, .int x3, .int 2]) (rest := []) (C := RX1) (T := TX1) (N := 1) X h hf (fun res hres => wX1_move l Γ ad _ b1 x1 x3 2 res hres) rfl (cwV 3 X.hts (lw_V q737 q738 q739 q83 q740) rfl rfl rfl (by decide +kernel) ⟨Nat.le_of_ble_eq_true rfl, Nat.le_of_ble_eq_true rfl⟩) rfl ⟨hl.1, Nat.le_of_ble_eq_true rfl, Nat.le_of_ble_eq_true rfl, Nat.le_of_ble_eq_true rfl⟩ rfl dX4_throwSand_10 (fun x5 μ6 H locs hf h => ?_)
  refine lv_pop X.hx X.hb dX4_throwSand_13 rfl ?_
  exact r_rv X h hr hlk (Nat.le_of_ble_eq_true rfl) (Nat.le_of_ble_eq_true rfl) dX4_throwSand_14 hf
/-! X6_throwSand -/
def vX6_left (μ : gM) (i : Nat) : gR := gkc μ i fun c => if c = 6 then fX3_left μ i else none
set_option maxHeartbeats 4000000 in
theorem wvX6_left {p : Program} {l : Launch} {e : Env} {R : Room} {s : State} {m : MethodId} {args : Array Value} {below : List Frame} {meth : Method} {c : Code} {H : Heap} {locs : List Loc} {cells slots : Nat} {Q : State → Prop} {cc : ByteArray} {pc nL : Nat} {ls : Array Slot} {rest st0 : List Value} {own : String} {Γ : gG} {A : Nat → Prop} {nz : Nat} {ad : Nat → Nat} {μ : gM} {r : Option Value × gM} {i index : Nat} {kt : Int32 → gM → gR} (X : gX p m c cc nL s args own Γ A) (h : gWd Γ A nz ad μ s.heap H locs) (hl : Cond.methodLink own index ⟨"SandPiano$Crab", "left", "()I"⟩ ∈ lw_all) (hF : 1 ≤ R.frames) (hL : 20 ≤ R.locals) (hg : gSt m ls nL R cells slots 0 0 rest) (hst : st0 = ([] : List Value).reverse ++ .ref (ad i) :: rest) (d : decode cc pc = .ok (.invokevirtual index, 3)) (hf : cI (vX6_left μ i) kt = some r)
    (kk : ∀ (x : Int32) (μ1 : gM) (H1 : Heap) (locs1 : List Loc), kt x μ1 = some r → gWd Γ A nz ad μ1 s.heap H1 locs1 → W p l e R s m args below meth c H1 locs1 cells slots Q (F0 m (pc + 3) ls (.int x :: rest))) : W p l e R s m args below meth c H locs cells slots Q (F0 m pc ls st0) := by
  obtain ⟨x, μ1, ho, hf⟩ := cI_some hf
  obtain ⟨ci, fs, he, ho⟩ := gkc_some ho
  by_cases hc6 : ci = 6
  · subst hc6
    rw [if_pos rfl] at ho
    exact r_back0 X h (g_runU (As := []) X h he (wX3_left l Γ ad μ i _ ho _) (T := TX6) rfl (va_cwU (owner := "SandPiano$Key") (x := ⟨"SandPiano$Crab", "left", "()I"⟩) 0 X.hts (lw_U hl q680 q682 q683 q95 q684) rfl rfl rfl rfl (by decide +kernel) ⟨Nat.le_trans (Nat.le_of_ble_eq_true rfl) hF, Nat.le_trans (Nat.le_of_ble_eq_true rfl) hL⟩) rfl hg hst d) (fun H1 locs1 h1 => kk x μ1 H1 locs1 hf h1)
  rw [if_neg hc6] at ho
  cases ho
def vX6_place (μ : gM) (i : Nat) : gR := gkc μ i fun c => if c = 6 then fX3_place μ i else none
set_option maxHeartbeats 4000000 in
theorem wvX6_place {p : Program} {l : Launch} {e : Env} {R : Room} {s : State} {m : MethodId} {args : Array Value} {below : List Frame} {meth : Method} {c : Code} {H : Heap} {locs : List Loc} {cells slots : Nat} {Q : State → Prop} {cc : ByteArray} {pc nL : Nat} {ls : Array Slot} {rest st0 : List Value} {own : String} {Γ : gG} {A : Nat → Prop} {nz : Nat} {ad : Nat → Nat} {μ : gM} {r : Option Value × gM} {i index : Nat} {kt : Int32 → gM → gR} (X : gX p m c cc nL s args own Γ A) (h : gWd Γ A nz ad μ s.heap H locs) (hl : Cond.methodLink own index ⟨"SandPiano$Crab", "place", "()I"⟩ ∈ lw_all) (hF : 1 ≤ R.frames) (hL : 20 ≤ R.locals) (hg : gSt m ls nL R cells slots 0 0 rest) (hst : st0 = ([] : List Value).reverse ++ .ref (ad i) :: rest) (d : decode cc pc = .ok (.invokevirtual index, 3)) (hf : cI (vX6_place μ i) kt = some r)
    (kk : ∀ (x : Int32) (μ1 : gM) (H1 : Heap) (locs1 : List Loc), kt x μ1 = some r → gWd Γ A nz ad μ1 s.heap H1 locs1 → W p l e R s m args below meth c H1 locs1 cells slots Q (F0 m (pc + 3) ls (.int x :: rest))) : W p l e R s m args below meth c H locs cells slots Q (F0 m pc ls st0) := by
  obtain ⟨x, μ1, ho, hf⟩ := cI_some hf
  obtain ⟨ci, fs, he, ho⟩ := gkc_some ho
  by_cases hc6 : ci = 6
  · subst hc6
    rw [if_pos rfl] at ho
    exact r_back0 X h (g_runU (As := []) X h he (wX3_place l Γ ad μ i _ ho _) (T := TX6) rfl (va_cwU (owner := "SandPiano$Key") (x := ⟨"SandPiano$Crab", "place", "()I"⟩) 0 X.hts (lw_U hl q746 q747 q652 q95 q653) rfl rfl rfl rfl (by decide +kernel) ⟨Nat.le_trans (Nat.le_of_ble_eq_true rfl) hF, Nat.le_trans (Nat.le_of_ble_eq_true rfl) hL⟩) rfl hg hst d) (fun H1 locs1 h1 => kk x μ1 H1 locs1 hf h1)
  rw [if_neg hc6] at ho
  cases ho
def fX6_throwSand (μ0 : gM) (b0 : Nat) (b1 : Nat) (a2 : Int32) : gR := cI (vX6_left μ0 b0) fun x1 μ2 => cI (vX6_place μ2 b0) fun x3 μ4 => gis μ4 b1 1 <| cI (fX1_move μ4 b1 x1 x3 1) fun x5 μ6 => some (none, μ6)
set_option maxHeartbeats 4000000 in
theorem wX6_throwSand (l : Launch) (Γ : gG) (ad : Nat → Nat) (μ0 : gM) (b0 : Nat) (b1 : Nat) (a2 : Int32) (r : Option Value × gM) (hf : fX6_throwSand μ0 b0 b1 a2 = some r) : gMt0 l Γ yX6_throwSand (ws_ yX6_throwSand cX6_throwSand 3 none) ({ frames := 2, cells := 0, slots := 0, locals := 45 } : Room) 0 0 ad μ0 [.ref (ad b0), .ref (ad b1), .int a2] r := by
  intro sz
  refine g_start (maxL := 3) (ret := none) (by decide) rfl g_all (Nat.le_of_ble_eq_true rfl) ?_
  intro p e s m below meth c ls hr hlk hnm X h hl
  generalize gA ad μ0 sz = A at X h ⊢
  generalize ([.ref (ad b0), .ref (ad b1), .int a2] : List Value).toArray = args at X ⊢
  have X : gX p m c cX6_throwSand 3 s args "SandPiano$Crab" Γ A := X
  have hl : lv_has ls 3 [(0, .ref (ad b0)), (1, .ref (ad b1)), (2, .int a2)] := hl
  show W p l e ({ frames := 2, cells := 0, slots := 0, locals := 45 } : Room) s m args below meth c s.heap [] 0 0 (MQ below (gQ0 Γ ad μ0.1 r A) args s 0 0 A) (F0 m 0 ls [])
  unfold fX6_throwSand at hf
  refine lv_aload_n X.hx X.hb dX6_throwSand_0 rfl (lv_at hl 1 rfl) ?_
  refine lv_aload_n X.hx X.hb dX6_throwSand_1 rfl (lv_at hl 0 rfl) ?_
  refine wvX6_left X h q679 (Nat.le_of_ble_eq_true rfl) (Nat.le_of_ble_eq_true rfl) (rest := [.ref (ad b1)]) ⟨hl.1, Nat.le_of_ble_eq_true rfl, Nat.le_of_ble_eq_true rfl, Nat.le_of_ble_eq_true rfl⟩ rfl dX6_throwSand_2 hf (fun x1 μ2 H locs hf h => ?_)
  refine lv_aload_n X.hx X.hb dX6_throwSand_5 rfl (lv_at hl 0 rfl) ?_
  refine wvX6_place X h q745 (Nat.le_of_ble_eq_true rfl) (Nat.le_of_ble_eq_true rfl) (rest := [.int x1, .ref (ad b1)]) ⟨hl.1, Nat.le_of_ble_eq_true rfl, Nat.le_of_ble_eq_true rfl, Nat.le_of_ble_eq_true rfl⟩ rfl dX6_throwSand_6 hf (fun x3 μ4 H locs hf h => ?_)
  refine lv_iconst (v := 1) X.hx X.hb dX6_throwSand_9 (by decide) ?_
  refine r_cVI (As := [.int x1, .int x3, .int 1]) (rest := []) (C := RX1) (T := TX1) (N := 1) X h hf (fun res hres => wX1_move l Γ ad _ b1 x1 x3 1 res hres) rfl (cwV 3 X.hts (lw_V q748 q738 q739 q83 q740) rfl rfl rfl (by decide +kernel) ⟨Nat.le_of_ble_eq_true rfl, Nat.le_of_ble_eq_true rfl⟩) rfl ⟨hl.1, Nat.le_of_ble_eq_true rfl, Nat.le_of_ble_eq_true rfl, Nat.le_of_ble_eq_true rfl⟩ rfl dX6_throwSand_10 (fun x5 μ6 H locs hf h => ?_)
  refine lv_pop X.hx X.hb dX6_throwSand_13 rfl ?_
  exact r_rv X h hr hlk (Nat.le_of_ble_eq_true rfl) (Nat.le_of_ble_eq_true rfl) dX6_throwSand_14 hf
/-! X3_right -/
def fX3_right (μ0 : gM) (b0 : Nat) (a1 : Int32) : gR := gI (gkld μ0 b0 0) fun x1 => if x1 = (a1 - 1) then (some (some (.int 6), μ0)) else (gI (gkld μ0 b0 0) fun x2 => some (some (.int (x2 + 1)), μ0))
set_option maxHeartbeats 4000000 in
theorem wX3_right (l : Launch) (Γ : gG) (ad : Nat → Nat) (μ0 : gM) (b0 : Nat) (a1 : Int32) (r : Option Value × gM) (hf : fX3_right μ0 b0 a1 = some r) : gMt0 l Γ yX3_right (ws_ yX3_right cX3_right 2 (some .int)) ({ frames := 0, cells := 0, slots := 0, locals := 0 } : Room) 0 0 ad μ0 [.ref (ad b0), .int a1] r := by
  intro sz
  refine g_start (maxL := 2) (ret := (some .int)) (by decide) rfl g_all (Nat.le_of_ble_eq_true rfl) ?_
  intro p e s m below meth c ls hr hlk hnm X h hl
  generalize gA ad μ0 sz = A at X h ⊢
  generalize ([.ref (ad b0), .int a1] : List Value).toArray = args at X ⊢
  have X : gX p m c cX3_right 2 s args "SandPiano$Key" Γ A := X
  have hl : lv_has ls 2 [(0, .ref (ad b0)), (1, .int a1)] := hl
  show W p l e ({ frames := 0, cells := 0, slots := 0, locals := 0 } : Room) s m args below meth c s.heap [] 0 0 (MQ below (gQ0 Γ ad μ0.1 r A) args s 0 0 A) (F0 m 0 ls [])
  unfold fX3_right at hf
  refine lv_aload_n X.hx X.hb dX3_right_0 rfl (lv_at hl 0 rfl) ?_
  refine r_getK X h (k := 0) (by decide) q489 rfl dX3_right_1 hf (fun x1 hf => ?_)
  refine lv_iload_n X.hx X.hb dX3_right_4 rfl (lv_at hl 1 rfl) ?_
  refine lv_iconst (v := 1) X.hx X.hb dX3_right_5 (by decide) ?_
  refine lv_isub X.hx X.hb dX3_right_6 ?_
  refine lv_icmp_ne (tgt := 15) X.hx X.hb dX3_right_7 (by decide) (fun hc => ?_) (fun hc => ?_)
  · replace hf := gif_f hf hc
    clear hc
    refine lv_aload_n X.hx X.hb dX3_right_15 rfl (lv_at hl 0 rfl) ?_
    refine r_getK X h (k := 0) (by decide) q489 rfl dX3_right_16 hf (fun x2 hf => ?_)
    refine lv_iconst (v := 1) X.hx X.hb dX3_right_19 (by decide) ?_
    refine lv_iadd X.hx X.hb dX3_right_20 ?_
    exact r_ri X h hr hlk (Nat.le_of_ble_eq_true rfl) (Nat.le_of_ble_eq_true rfl) dX3_right_21 hf
  · replace hf := gif_t hf hc
    clear hc
    refine lv_bipush (v := 6) X.hx X.hb dX3_right_10 (by decide) ?_
    refine lv_goto (tgt := 21) X.hx X.hb dX3_right_12 (by decide) ?_
    exact r_ri X h hr hlk (Nat.le_of_ble_eq_true rfl) (Nat.le_of_ble_eq_true rfl) dX3_right_21 hf
/-! X7_throwSand -/
def vX7_place (μ : gM) (i : Nat) : gR := gkc μ i fun c => if c = 7 then fX3_place μ i else none
set_option maxHeartbeats 4000000 in
theorem wvX7_place {p : Program} {l : Launch} {e : Env} {R : Room} {s : State} {m : MethodId} {args : Array Value} {below : List Frame} {meth : Method} {c : Code} {H : Heap} {locs : List Loc} {cells slots : Nat} {Q : State → Prop} {cc : ByteArray} {pc nL : Nat} {ls : Array Slot} {rest st0 : List Value} {own : String} {Γ : gG} {A : Nat → Prop} {nz : Nat} {ad : Nat → Nat} {μ : gM} {r : Option Value × gM} {i index : Nat} {kt : Int32 → gM → gR} (X : gX p m c cc nL s args own Γ A) (h : gWd Γ A nz ad μ s.heap H locs) (hl : Cond.methodLink own index ⟨"SandPiano$Drum", "place", "()I"⟩ ∈ lw_all) (hF : 1 ≤ R.frames) (hL : 20 ≤ R.locals) (hg : gSt m ls nL R cells slots 0 0 rest) (hst : st0 = ([] : List Value).reverse ++ .ref (ad i) :: rest) (d : decode cc pc = .ok (.invokevirtual index, 3)) (hf : cI (vX7_place μ i) kt = some r)
    (kk : ∀ (x : Int32) (μ1 : gM) (H1 : Heap) (locs1 : List Loc), kt x μ1 = some r → gWd Γ A nz ad μ1 s.heap H1 locs1 → W p l e R s m args below meth c H1 locs1 cells slots Q (F0 m (pc + 3) ls (.int x :: rest))) : W p l e R s m args below meth c H locs cells slots Q (F0 m pc ls st0) := by
  obtain ⟨x, μ1, ho, hf⟩ := cI_some hf
  obtain ⟨ci, fs, he, ho⟩ := gkc_some ho
  by_cases hc7 : ci = 7
  · subst hc7
    rw [if_pos rfl] at ho
    exact r_back0 X h (g_runU (As := []) X h he (wX3_place l Γ ad μ i _ ho _) (T := TX7) rfl (va_cwU (owner := "SandPiano$Key") (x := ⟨"SandPiano$Drum", "place", "()I"⟩) 0 X.hts (lw_U hl q690 q691 q652 q95 q653) rfl rfl rfl rfl (by decide +kernel) ⟨Nat.le_trans (Nat.le_of_ble_eq_true rfl) hF, Nat.le_trans (Nat.le_of_ble_eq_true rfl) hL⟩) rfl hg hst d) (fun H1 locs1 h1 => kk x μ1 H1 locs1 hf h1)
  rw [if_neg hc7] at ho
  cases ho
def vX7_left (μ : gM) (i : Nat) : gR := gkc μ i fun c => if c = 7 then fX3_left μ i else none
set_option maxHeartbeats 4000000 in
theorem wvX7_left {p : Program} {l : Launch} {e : Env} {R : Room} {s : State} {m : MethodId} {args : Array Value} {below : List Frame} {meth : Method} {c : Code} {H : Heap} {locs : List Loc} {cells slots : Nat} {Q : State → Prop} {cc : ByteArray} {pc nL : Nat} {ls : Array Slot} {rest st0 : List Value} {own : String} {Γ : gG} {A : Nat → Prop} {nz : Nat} {ad : Nat → Nat} {μ : gM} {r : Option Value × gM} {i index : Nat} {kt : Int32 → gM → gR} (X : gX p m c cc nL s args own Γ A) (h : gWd Γ A nz ad μ s.heap H locs) (hl : Cond.methodLink own index ⟨"SandPiano$Drum", "left", "()I"⟩ ∈ lw_all) (hF : 1 ≤ R.frames) (hL : 20 ≤ R.locals) (hg : gSt m ls nL R cells slots 0 0 rest) (hst : st0 = ([] : List Value).reverse ++ .ref (ad i) :: rest) (d : decode cc pc = .ok (.invokevirtual index, 3)) (hf : cI (vX7_left μ i) kt = some r)
    (kk : ∀ (x : Int32) (μ1 : gM) (H1 : Heap) (locs1 : List Loc), kt x μ1 = some r → gWd Γ A nz ad μ1 s.heap H1 locs1 → W p l e R s m args below meth c H1 locs1 cells slots Q (F0 m (pc + 3) ls (.int x :: rest))) : W p l e R s m args below meth c H locs cells slots Q (F0 m pc ls st0) := by
  obtain ⟨x, μ1, ho, hf⟩ := cI_some hf
  obtain ⟨ci, fs, he, ho⟩ := gkc_some ho
  by_cases hc7 : ci = 7
  · subst hc7
    rw [if_pos rfl] at ho
    exact r_back0 X h (g_runU (As := []) X h he (wX3_left l Γ ad μ i _ ho _) (T := TX7) rfl (va_cwU (owner := "SandPiano$Key") (x := ⟨"SandPiano$Drum", "left", "()I"⟩) 0 X.hts (lw_U hl q753 q754 q683 q95 q684) rfl rfl rfl rfl (by decide +kernel) ⟨Nat.le_trans (Nat.le_of_ble_eq_true rfl) hF, Nat.le_trans (Nat.le_of_ble_eq_true rfl) hL⟩) rfl hg hst d) (fun H1 locs1 h1 => kk x μ1 H1 locs1 hf h1)
  rw [if_neg hc7] at ho
  cases ho
def vX7_right (μ : gM) (i : Nat) (a1 : Int32) : gR := gkc μ i fun c => if c = 7 then fX3_right μ i a1 else none
set_option maxHeartbeats 4000000 in
theorem wvX7_right {p : Program} {l : Launch} {e : Env} {R : Room} {s : State} {m : MethodId} {args : Array Value} {below : List Frame} {meth : Method} {c : Code} {H : Heap} {locs : List Loc} {cells slots : Nat} {Q : State → Prop} {cc : ByteArray} {pc nL : Nat} {ls : Array Slot} {rest st0 : List Value} {own : String} {Γ : gG} {A : Nat → Prop} {nz : Nat} {ad : Nat → Nat} {μ : gM} {r : Option Value × gM} {i index : Nat} {a1 : Int32} {kt : Int32 → gM → gR} (X : gX p m c cc nL s args own Γ A) (h : gWd Γ A nz ad μ s.heap H locs) (hl : Cond.methodLink own index ⟨"SandPiano$Drum", "right", "(I)I"⟩ ∈ lw_all) (hF : 1 ≤ R.frames) (hL : 21 ≤ R.locals) (hg : gSt m ls nL R cells slots 0 0 rest) (hst : st0 = ([.int a1] : List Value).reverse ++ .ref (ad i) :: rest) (d : decode cc pc = .ok (.invokevirtual index, 3)) (hf : cI (vX7_right μ i a1) kt = some r)
    (kk : ∀ (x : Int32) (μ1 : gM) (H1 : Heap) (locs1 : List Loc), kt x μ1 = some r → gWd Γ A nz ad μ1 s.heap H1 locs1 → W p l e R s m args below meth c H1 locs1 cells slots Q (F0 m (pc + 3) ls (.int x :: rest))) : W p l e R s m args below meth c H locs cells slots Q (F0 m pc ls st0) := by
  obtain ⟨x, μ1, ho, hf⟩ := cI_some hf
  obtain ⟨ci, fs, he, ho⟩ := gkc_some ho
  by_cases hc7 : ci = 7
  · subst hc7
    rw [if_pos rfl] at ho
    exact r_back0 X h (g_runU (As := [.int a1]) X h he (wX3_right l Γ ad μ i a1 _ ho _) (T := TX7) rfl (va_cwU (owner := "SandPiano$Key") (x := ⟨"SandPiano$Drum", "right", "(I)I"⟩) 1 X.hts (lw_U hl q757 q759 q760 q95 q761) rfl rfl rfl rfl (by decide +kernel) ⟨Nat.le_trans (Nat.le_of_ble_eq_true rfl) hF, Nat.le_trans (Nat.le_of_ble_eq_true rfl) hL⟩) rfl hg hst d) (fun H1 locs1 h1 => kk x μ1 H1 locs1 hf h1)
  rw [if_neg hc7] at ho
  cases ho
def fX7_throwSand (μ0 : gM) (b0 : Nat) (b1 : Nat) (a2 : Int32) : gR := cI (vX7_place μ0 b0) fun x1 μ2 => cI (vX7_left μ2 b0) fun x3 μ4 => gis μ4 b1 1 <| cI (fX1_move μ4 b1 x1 x3 1) fun x5 μ6 => cI (vX7_place μ6 b0) fun x7 μ8 => cI (vX7_right μ8 b0 a2) fun x9 μ10 => gis μ10 b1 1 <| cI (fX1_move μ10 b1 x7 x9 1) fun x11 μ12 => some (none, μ12)
set_option maxHeartbeats 4000000 in
theorem wX7_throwSand (l : Launch) (Γ : gG) (ad : Nat → Nat) (μ0 : gM) (b0 : Nat) (b1 : Nat) (a2 : Int32) (r : Option Value × gM) (hf : fX7_throwSand μ0 b0 b1 a2 = some r) : gMt0 l Γ yX7_throwSand (ws_ yX7_throwSand cX7_throwSand 3 none) ({ frames := 2, cells := 0, slots := 0, locals := 45 } : Room) 0 0 ad μ0 [.ref (ad b0), .ref (ad b1), .int a2] r := by
  intro sz
  refine g_start (maxL := 3) (ret := none) (by decide) rfl g_all (Nat.le_of_ble_eq_true rfl) ?_
  intro p e s m below meth c ls hr hlk hnm X h hl
  generalize gA ad μ0 sz = A at X h ⊢
  generalize ([.ref (ad b0), .ref (ad b1), .int a2] : List Value).toArray = args at X ⊢
  have X : gX p m c cX7_throwSand 3 s args "SandPiano$Drum" Γ A := X
  have hl : lv_has ls 3 [(0, .ref (ad b0)), (1, .ref (ad b1)), (2, .int a2)] := hl
  show W p l e ({ frames := 2, cells := 0, slots := 0, locals := 45 } : Room) s m args below meth c s.heap [] 0 0 (MQ below (gQ0 Γ ad μ0.1 r A) args s 0 0 A) (F0 m 0 ls [])
  unfold fX7_throwSand at hf
  refine lv_aload_n X.hx X.hb dX7_throwSand_0 rfl (lv_at hl 1 rfl) ?_
  refine lv_aload_n X.hx X.hb dX7_throwSand_1 rfl (lv_at hl 0 rfl) ?_
  refine wvX7_place X h q689 (Nat.le_of_ble_eq_true rfl) (Nat.le_of_ble_eq_true rfl) (rest := [.ref (ad b1)]) ⟨hl.1, Nat.le_of_ble_eq_true rfl, Nat.le_of_ble_eq_true rfl, Nat.le_of_ble_eq_true rfl⟩ rfl dX7_throwSand_2 hf (fun x1 μ2 H locs hf h => ?_)
  refine lv_aload_n X.hx X.hb dX7_throwSand_5 rfl (lv_at hl 0 rfl) ?_
  refine wvX7_left X h q752 (Nat.le_of_ble_eq_true rfl) (Nat.le_of_ble_eq_true rfl) (rest := [.int x1, .ref (ad b1)]) ⟨hl.1, Nat.le_of_ble_eq_true rfl, Nat.le_of_ble_eq_true rfl, Nat.le_of_ble_eq_true rfl⟩ rfl dX7_throwSand_6 hf (fun x3 μ4 H locs hf h => ?_)
  refine lv_iconst (v := 1) X.hx X.hb dX7_throwSand_9 (by decide) ?_
  refine r_cVI (As := [.int x1, .int x3, .int 1]) (rest := []) (C := RX1) (T := TX1) (N := 1) X h hf (fun res hres => wX1_move l Γ ad _ b1 x1 x3 1 res hres) rfl (cwV 3 X.hts (lw_V q755 q738 q739 q83 q740) rfl rfl rfl (by decide +kernel) ⟨Nat.le_of_ble_eq_true rfl, Nat.le_of_ble_eq_true rfl⟩) rfl ⟨hl.1, Nat.le_of_ble_eq_true rfl, Nat.le_of_ble_eq_true rfl, Nat.le_of_ble_eq_true rfl⟩ rfl dX7_throwSand_10 (fun x5 μ6 H locs hf h => ?_)
  refine lv_pop X.hx X.hb dX7_throwSand_13 rfl ?_
  refine lv_aload_n X.hx X.hb dX7_throwSand_14 rfl (lv_at hl 1 rfl) ?_
  refine lv_aload_n X.hx X.hb dX7_throwSand_15 rfl (lv_at hl 0 rfl) ?_
  refine wvX7_place X h q689 (Nat.le_of_ble_eq_true rfl) (Nat.le_of_ble_eq_true rfl) (rest := [.ref (ad b1)]) ⟨hl.1, Nat.le_of_ble_eq_true rfl, Nat.le_of_ble_eq_true rfl, Nat.le_of_ble_eq_true rfl⟩ rfl dX7_throwSand_16 hf (fun x7 μ8 H locs hf h => ?_)
  refine lv_aload_n X.hx X.hb dX7_throwSand_19 rfl (lv_at hl 0 rfl) ?_
  refine lv_iload_n X.hx X.hb dX7_throwSand_20 rfl (lv_at hl 2 rfl) ?_
  refine wvX7_right X h q756 (Nat.le_of_ble_eq_true rfl) (Nat.le_of_ble_eq_true rfl) (rest := [.int x7, .ref (ad b1)]) ⟨hl.1, Nat.le_of_ble_eq_true rfl, Nat.le_of_ble_eq_true rfl, Nat.le_of_ble_eq_true rfl⟩ rfl dX7_throwSand_21 hf (fun x9 μ10 H locs hf h => ?_)
  refine lv_iconst (v := 1) X.hx X.hb dX7_throwSand_24 (by decide) ?_
  refine r_cVI (As := [.int x7, .int x9, .int 1]) (rest := []) (C := RX1) (T := TX1) (N := 1) X h hf (fun res hres => wX1_move l Γ ad _ b1 x7 x9 1 res hres) rfl (cwV 3 X.hts (lw_V q755 q738 q739 q83 q740) rfl rfl rfl (by decide +kernel) ⟨Nat.le_of_ble_eq_true rfl, Nat.le_of_ble_eq_true rfl⟩) rfl ⟨hl.1, Nat.le_of_ble_eq_true rfl, Nat.le_of_ble_eq_true rfl, Nat.le_of_ble_eq_true rfl⟩ rfl dX7_throwSand_25 (fun x11 μ12 H locs hf h => ?_)
  refine lv_pop X.hx X.hb dX7_throwSand_28 rfl ?_
  exact r_rv X h hr hlk (Nat.le_of_ble_eq_true rfl) (Nat.le_of_ble_eq_true rfl) dX7_throwSand_29 hf
/-! X3_pay -/
def fX3_pay (μ0 : gM) (b0 : Nat) : gR := gI (gkld μ0 b0 2) fun x1 => some (some (.int x1), μ0)
set_option maxHeartbeats 4000000 in
theorem wX3_pay (l : Launch) (Γ : gG) (ad : Nat → Nat) (μ0 : gM) (b0 : Nat) (r : Option Value × gM) (hf : fX3_pay μ0 b0 = some r) : gMt0 l Γ yX3_pay (ws_ yX3_pay cX3_pay 1 (some .int)) ({ frames := 0, cells := 0, slots := 0, locals := 0 } : Room) 0 0 ad μ0 [.ref (ad b0)] r := by
  intro sz
  refine g_start (maxL := 1) (ret := (some .int)) (by decide) rfl g_all (Nat.le_of_ble_eq_true rfl) ?_
  intro p e s m below meth c ls hr hlk hnm X h hl
  generalize gA ad μ0 sz = A at X h ⊢
  generalize ([.ref (ad b0)] : List Value).toArray = args at X ⊢
  have X : gX p m c cX3_pay 1 s args "SandPiano$Key" Γ A := X
  have hl : lv_has ls 1 [(0, .ref (ad b0))] := hl
  show W p l e ({ frames := 0, cells := 0, slots := 0, locals := 0 } : Room) s m args below meth c s.heap [] 0 0 (MQ below (gQ0 Γ ad μ0.1 r A) args s 0 0 A) (F0 m 0 ls [])
  unfold fX3_pay at hf
  refine lv_aload_n X.hx X.hb dX3_pay_0 rfl (lv_at hl 0 rfl) ?_
  refine r_getK X h (k := 2) (by decide) q491 rfl dX3_pay_1 hf (fun x1 hf => ?_)
  exact r_ri X h hr hlk (Nat.le_of_ble_eq_true rfl) (Nat.le_of_ble_eq_true rfl) dX3_pay_4 hf
/-! X3_throwSand -/
def vX3_right (μ : gM) (i : Nat) (a1 : Int32) : gR := gkc μ i fun c => if c = 3 then fX3_right μ i a1 else if c = 4 then fX3_right μ i a1 else if c = 5 then fX3_right μ i a1 else if c = 6 then fX3_right μ i a1 else if c = 7 then fX3_right μ i a1 else if c = 8 then fX3_right μ i a1 else none
set_option maxHeartbeats 4000000 in
theorem wvX3_right {p : Program} {l : Launch} {e : Env} {R : Room} {s : State} {m : MethodId} {args : Array Value} {below : List Frame} {meth : Method} {c : Code} {H : Heap} {locs : List Loc} {cells slots : Nat} {Q : State → Prop} {cc : ByteArray} {pc nL : Nat} {ls : Array Slot} {rest st0 : List Value} {own : String} {Γ : gG} {A : Nat → Prop} {nz : Nat} {ad : Nat → Nat} {μ : gM} {r : Option Value × gM} {i index : Nat} {a1 : Int32} {kt : Int32 → gM → gR} (X : gX p m c cc nL s args own Γ A) (h : gWd Γ A nz ad μ s.heap H locs) (hl : Cond.methodLink own index ⟨"SandPiano$Key", "right", "(I)I"⟩ ∈ lw_all) (hF : 1 ≤ R.frames) (hL : 21 ≤ R.locals) (hg : gSt m ls nL R cells slots 0 0 rest) (hst : st0 = ([.int a1] : List Value).reverse ++ .ref (ad i) :: rest) (d : decode cc pc = .ok (.invokevirtual index, 3)) (hf : cI (vX3_right μ i a1) kt = some r)
    (kk : ∀ (x : Int32) (μ1 : gM) (H1 : Heap) (locs1 : List Loc), kt x μ1 = some r → gWd Γ A nz ad μ1 s.heap H1 locs1 → W p l e R s m args below meth c H1 locs1 cells slots Q (F0 m (pc + 3) ls (.int x :: rest))) : W p l e R s m args below meth c H locs cells slots Q (F0 m pc ls st0) := by
  obtain ⟨x, μ1, ho, hf⟩ := cI_some hf
  obtain ⟨ci, fs, he, ho⟩ := gkc_some ho
  by_cases hc3 : ci = 3
  · subst hc3
    rw [if_pos rfl] at ho
    exact r_back0 X h (g_runU (As := [.int a1]) X h he (wX3_right l Γ ad μ i a1 _ ho _) (T := TX3) rfl (va_cwU (owner := "SandPiano$Key") (x := ⟨"SandPiano$Key", "right", "(I)I"⟩) 1 X.hts (lw_U hl q1544 q1548 q760 q95 q761) rfl rfl rfl rfl (by decide +kernel) ⟨Nat.le_trans (Nat.le_of_ble_eq_true rfl) hF, Nat.le_trans (Nat.le_of_ble_eq_true rfl) hL⟩) rfl hg hst d) (fun H1 locs1 h1 => kk x μ1 H1 locs1 hf h1)
  rw [if_neg hc3] at ho
  by_cases hc4 : ci = 4
  · subst hc4
    rw [if_pos rfl] at ho
    exact r_back0 X h (g_runU (As := [.int a1]) X h he (wX3_right l Γ ad μ i a1 _ ho _) (T := TX4) rfl (va_cwU (owner := "SandPiano$Key") (x := ⟨"SandPiano$Key", "right", "(I)I"⟩) 1 X.hts (lw_U hl q1544 q1545 q760 q95 q761) rfl rfl rfl rfl (by decide +kernel) ⟨Nat.le_trans (Nat.le_of_ble_eq_true rfl) hF, Nat.le_trans (Nat.le_of_ble_eq_true rfl) hL⟩) rfl hg hst d) (fun H1 locs1 h1 => kk x μ1 H1 locs1 hf h1)
  rw [if_neg hc4] at ho
  by_cases hc5 : ci = 5
  · subst hc5
    rw [if_pos rfl] at ho
    exact r_back0 X h (g_runU (As := [.int a1]) X h he (wX3_right l Γ ad μ i a1 _ ho _) (T := TX5) rfl (va_cwU (owner := "SandPiano$Key") (x := ⟨"SandPiano$Key", "right", "(I)I"⟩) 1 X.hts (lw_U hl q1544 q1550 q760 q95 q761) rfl rfl rfl rfl (by decide +kernel) ⟨Nat.le_trans (Nat.le_of_ble_eq_true rfl) hF, Nat.le_trans (Nat.le_of_ble_eq_true rfl) hL⟩) rfl hg hst d) (fun H1 locs1 h1 => kk x μ1 H1 locs1 hf h1)
  rw [if_neg hc5] at ho
  by_cases hc6 : ci = 6
  · subst hc6
    rw [if_pos rfl] at ho
    exact r_back0 X h (g_runU (As := [.int a1]) X h he (wX3_right l Γ ad μ i a1 _ ho _) (T := TX6) rfl (va_cwU (owner := "SandPiano$Key") (x := ⟨"SandPiano$Key", "right", "(I)I"⟩) 1 X.hts (lw_U hl q1544 q1546 q760 q95 q761) rfl rfl rfl rfl (by decide +kernel) ⟨Nat.le_trans (Nat.le_of_ble_eq_true rfl) hF, Nat.le_trans (Nat.le_of_ble_eq_true rfl) hL⟩) rfl hg hst d) (fun H1 locs1 h1 => kk x μ1 H1 locs1 hf h1)
  rw [if_neg hc6] at ho
  by_cases hc7 : ci = 7
  · subst hc7
    rw [if_pos rfl] at ho
    exact r_back0 X h (g_runU (As := [.int a1]) X h he (wX3_right l Γ ad μ i a1 _ ho _) (T := TX7) rfl (va_cwU (owner := "SandPiano$Key") (x := ⟨"SandPiano$Key", "right", "(I)I"⟩) 1 X.hts (lw_U hl q1544 q1547 q760 q95 q761) rfl rfl rfl rfl (by decide +kernel) ⟨Nat.le_trans (Nat.le_of_ble_eq_true rfl) hF, Nat.le_trans (Nat.le_of_ble_eq_true rfl) hL⟩) rfl hg hst d) (fun H1 locs1 h1 => kk x μ1 H1 locs1 hf h1)
  rw [if_neg hc7] at ho
  by_cases hc8 : ci = 8
  · subst hc8
    rw [if_pos rfl] at ho
    exact r_back0 X h (g_runU (As := [.int a1]) X h he (wX3_right l Γ ad μ i a1 _ ho _) (T := TX8) rfl (va_cwU (owner := "SandPiano$Key") (x := ⟨"SandPiano$Key", "right", "(I)I"⟩) 1 X.hts (lw_U hl q1544 q1549 q760 q95 q761) rfl rfl rfl rfl (by decide +kernel) ⟨Nat.le_trans (Nat.le_of_ble_eq_true rfl) hF, Nat.le_trans (Nat.le_of_ble_eq_true rfl) hL⟩) rfl hg hst d) (fun H1 locs1 h1 => kk x μ1 H1 locs1 hf h1)
  rw [if_neg hc8] at ho
  cases ho
def fX3_throwSand (μ0 : gM) (b0 : Nat) (b1 : Nat) (a2 : Int32) : gR := gI (gkld μ0 b0 0) fun x1 => cI (vX3_right μ0 b0 a2) fun x2 μ3 => gis μ3 b1 1 <| cI (fX1_move μ3 b1 x1 x2 1) fun x4 μ5 => some (none, μ5)
set_option maxHeartbeats 4000000 in
theorem wX3_throwSand (l : Launch) (Γ : gG) (ad : Nat → Nat) (μ0 : gM) (b0 : Nat) (b1 : Nat) (a2 : Int32) (r : Option Value × gM) (hf : fX3_throwSand μ0 b0 b1 a2 = some r) : gMt0 l Γ yX3_throwSand (ws_ yX3_throwSand cX3_throwSand 3 none) ({ frames := 2, cells := 0, slots := 0, locals := 45 } : Room) 0 0 ad μ0 [.ref (ad b0), .ref (ad b1), .int a2] r := by
  intro sz
  refine g_start (maxL := 3) (ret := none) (by decide) rfl g_all (Nat.le_of_ble_eq_true rfl) ?_
  intro p e s m below meth c ls hr hlk hnm X h hl
  generalize gA ad μ0 sz = A at X h ⊢
  generalize ([.ref (ad b0), .ref (ad b1), .int a2] : List Value).toArray = args at X ⊢
  have X : gX p m c cX3_throwSand 3 s args "SandPiano$Key" Γ A := X
  have hl : lv_has ls 3 [(0, .ref (ad b0)), (1, .ref (ad b1)), (2, .int a2)] := hl
  show W p l e ({ frames := 2, cells := 0, slots := 0, locals := 45 } : Room) s m args below meth c s.heap [] 0 0 (MQ below (gQ0 Γ ad μ0.1 r A) args s 0 0 A) (F0 m 0 ls [])
  unfold fX3_throwSand at hf
  refine lv_aload_n X.hx X.hb dX3_throwSand_0 rfl (lv_at hl 1 rfl) ?_
  refine lv_aload_n X.hx X.hb dX3_throwSand_1 rfl (lv_at hl 0 rfl) ?_
  refine r_getK X h (k := 0) (by decide) q489 rfl dX3_throwSand_2 hf (fun x1 hf => ?_)
  refine lv_aload_n X.hx X.hb dX3_throwSand_5 rfl (lv_at hl 0 rfl) ?_
  refine lv_iload_n X.hx X.hb dX3_throwSand_6 rfl (lv_at hl 2 rfl) ?_
  refine wvX3_right X h q767 (Nat.le_of_ble_eq_true rfl) (Nat.le_of_ble_eq_true rfl) (rest := [.int x1, .ref (ad b1)]) ⟨hl.1, Nat.le_of_ble_eq_true rfl, Nat.le_of_ble_eq_true rfl, Nat.le_of_ble_eq_true rfl⟩ rfl dX3_throwSand_7 hf (fun x2 μ3 H locs hf h => ?_)
  refine lv_iconst (v := 1) X.hx X.hb dX3_throwSand_10 (by decide) ?_
  refine r_cVI (As := [.int x1, .int x2, .int 1]) (rest := []) (C := RX1) (T := TX1) (N := 1) X h hf (fun res hres => wX1_move l Γ ad _ b1 x1 x2 1 res hres) rfl (cwV 3 X.hts (lw_V q768 q738 q739 q83 q740) rfl rfl rfl (by decide +kernel) ⟨Nat.le_of_ble_eq_true rfl, Nat.le_of_ble_eq_true rfl⟩) rfl ⟨hl.1, Nat.le_of_ble_eq_true rfl, Nat.le_of_ble_eq_true rfl, Nat.le_of_ble_eq_true rfl⟩ rfl dX3_throwSand_11 (fun x4 μ5 H locs hf h => ?_)
  refine lv_pop X.hx X.hb dX3_throwSand_14 rfl ?_
  exact r_rv X h hr hlk (Nat.le_of_ble_eq_true rfl) (Nat.le_of_ble_eq_true rfl) dX3_throwSand_15 hf
/-! X5_throwSand -/
def fX5_throwSand (μ0 : gM) (b0 : Nat) (b1 : Nat) (a2 : Int32) : gR := some (none, μ0)
set_option maxHeartbeats 4000000 in
theorem wX5_throwSand (l : Launch) (Γ : gG) (ad : Nat → Nat) (μ0 : gM) (b0 : Nat) (b1 : Nat) (a2 : Int32) (r : Option Value × gM) (hf : fX5_throwSand μ0 b0 b1 a2 = some r) : gMt0 l Γ yX5_throwSand (ws_ yX5_throwSand cX5_throwSand 3 none) ({ frames := 0, cells := 0, slots := 0, locals := 0 } : Room) 0 0 ad μ0 [.ref (ad b0), .ref (ad b1), .int a2] r := by
  intro sz
  refine g_start (maxL := 3) (ret := none) (by decide) rfl g_all (Nat.le_of_ble_eq_true rfl) ?_
  intro p e s m below meth c ls hr hlk hnm X h hl
  generalize gA ad μ0 sz = A at X h ⊢
  generalize ([.ref (ad b0), .ref (ad b1), .int a2] : List Value).toArray = args at X ⊢
  have X : gX p m c cX5_throwSand 3 s args "SandPiano$Shell" Γ A := X
  have hl : lv_has ls 3 [(0, .ref (ad b0)), (1, .ref (ad b1)), (2, .int a2)] := hl
  show W p l e ({ frames := 0, cells := 0, slots := 0, locals := 0 } : Room) s m args below meth c s.heap [] 0 0 (MQ below (gQ0 Γ ad μ0.1 r A) args s 0 0 A) (F0 m 0 ls [])
  unfold fX5_throwSand at hf
  exact r_rv X h hr hlk (Nat.le_of_ble_eq_true rfl) (Nat.le_of_ble_eq_true rfl) dX5_throwSand_0 hf
/-! X0_playIn -/
def vX3_throwSand (μ : gM) (i : Nat) (b1 : Nat) (a2 : Int32) : gR := gkc μ i fun c => if c = 3 then fX3_throwSand μ i b1 a2 else if c = 4 then fX4_throwSand μ i b1 a2 else if c = 5 then fX5_throwSand μ i b1 a2 else if c = 6 then fX6_throwSand μ i b1 a2 else if c = 7 then fX7_throwSand μ i b1 a2 else if c = 8 then fX5_throwSand μ i b1 a2 else none
set_option maxHeartbeats 4000000 in
theorem wvX3_throwSand {p : Program} {l : Launch} {e : Env} {R : Room} {s : State} {m : MethodId} {args : Array Value} {below : List Frame} {meth : Method} {c : Code} {H : Heap} {locs : List Loc} {cells slots : Nat} {Q : State → Prop} {cc : ByteArray} {pc nL : Nat} {ls : Array Slot} {rest st0 : List Value} {own : String} {Γ : gG} {A : Nat → Prop} {nz : Nat} {ad : Nat → Nat} {μ : gM} {r : Option Value × gM} {i index : Nat} {b1 : Nat} {a2 : Int32} {kt : gM → gR} (X : gX p m c cc nL s args own Γ A) (h : gWd Γ A nz ad μ s.heap H locs) (hl : Cond.methodLink own index ⟨"SandPiano$Key", "throwSand", "(LSandPiano$Sands;I)V"⟩ ∈ lw_all) (hF : 3 ≤ R.frames) (hL : 67 ≤ R.locals) (hg : gSt m ls nL R cells slots 0 0 rest) (hst : st0 = ([.ref (ad b1), .int a2] : List Value).reverse ++ .ref (ad i) :: rest) (d : decode cc pc = .ok (.invokevirtual index, 3)) (hf : cV (vX3_throwSand μ i b1 a2) kt = some r)
    (kk : ∀ (μ1 : gM) (H1 : Heap) (locs1 : List Loc), kt μ1 = some r → gWd Γ A nz ad μ1 s.heap H1 locs1 → W p l e R s m args below meth c H1 locs1 cells slots Q (F0 m (pc + 3) ls rest)) : W p l e R s m args below meth c H locs cells slots Q (F0 m pc ls st0) := by
  obtain ⟨μ1, ho, hf⟩ := cV_some hf
  obtain ⟨ci, fs, he, ho⟩ := gkc_some ho
  by_cases hc3 : ci = 3
  · subst hc3
    rw [if_pos rfl] at ho
    exact r_back0 X h (g_runU (As := [.ref (ad b1), .int a2]) X h he (wX3_throwSand l Γ ad μ i b1 a2 _ ho _) (T := TX3) rfl (va_cwU (owner := "SandPiano$Key") (x := ⟨"SandPiano$Key", "throwSand", "(LSandPiano$Sands;I)V"⟩) 2 X.hts (lw_U hl q729 q728 q727 q95 q766) rfl rfl rfl rfl (by decide +kernel) ⟨Nat.le_trans (Nat.le_of_ble_eq_true rfl) hF, Nat.le_trans (Nat.le_of_ble_eq_true rfl) hL⟩) rfl hg hst d) (fun H1 locs1 h1 => kk μ1 H1 locs1 hf h1)
  rw [if_neg hc3] at ho
  by_cases hc4 : ci = 4
  · subst hc4
    rw [if_pos rfl] at ho
    exact r_back0 X h (g_runU (As := [.ref (ad b1), .int a2]) X h he (wX4_throwSand l Γ ad μ i b1 a2 _ ho _) (T := TX4) rfl (va_cwO (owner := "SandPiano$Key") (x := ⟨"SandPiano$Key", "throwSand", "(LSandPiano$Sands;I)V"⟩) 2 X.hts (lw_O hl q729 q727 q730 q731 q96 q732) rfl rfl rfl q766 (by decide +kernel) ⟨Nat.le_trans (Nat.le_of_ble_eq_true rfl) hF, Nat.le_trans (Nat.le_of_ble_eq_true rfl) hL⟩) rfl hg hst d) (fun H1 locs1 h1 => kk μ1 H1 locs1 hf h1)
  rw [if_neg hc4] at ho
  by_cases hc5 : ci = 5
  · subst hc5
    rw [if_pos rfl] at ho
    exact r_back0 X h (g_runU (As := [.ref (ad b1), .int a2]) X h he (wX5_throwSand l Γ ad μ i b1 a2 _ ho _) (T := TX5) rfl (va_cwO (owner := "SandPiano$Key") (x := ⟨"SandPiano$Key", "throwSand", "(LSandPiano$Sands;I)V"⟩) 2 X.hts (lw_O hl q729 q727 q765 q763 q97 q764) rfl rfl rfl q766 (by decide +kernel) ⟨Nat.le_trans (Nat.le_of_ble_eq_true rfl) hF, Nat.le_trans (Nat.le_of_ble_eq_true rfl) hL⟩) rfl hg hst d) (fun H1 locs1 h1 => kk μ1 H1 locs1 hf h1)
  rw [if_neg hc5] at ho
  by_cases hc6 : ci = 6
  · subst hc6
    rw [if_pos rfl] at ho
    exact r_back0 X h (g_runU (As := [.ref (ad b1), .int a2]) X h he (wX6_throwSand l Γ ad μ i b1 a2 _ ho _) (T := TX6) rfl (va_cwO (owner := "SandPiano$Key") (x := ⟨"SandPiano$Key", "throwSand", "(LSandPiano$Sands;I)V"⟩) 2 X.hts (lw_O hl q729 q727 q742 q743 q98 q744) rfl rfl rfl q766 (by decide +kernel) ⟨Nat.le_trans (Nat.le_of_ble_eq_true rfl) hF, Nat.le_trans (Nat.le_of_ble_eq_true rfl) hL⟩) rfl hg hst d) (fun H1 locs1 h1 => kk μ1 H1 locs1 hf h1)
  rw [if_neg hc6] at ho
  by_cases hc7 : ci = 7
  · subst hc7
    rw [if_pos rfl] at ho
    exact r_back0 X h (g_runU (As := [.ref (ad b1), .int a2]) X h he (wX7_throwSand l Γ ad μ i b1 a2 _ ho _) (T := TX7) rfl (va_cwO (owner := "SandPiano$Key") (x := ⟨"SandPiano$Key", "throwSand", "(LSandPiano$Sands;I)V"⟩) 2 X.hts (lw_O hl q729 q727 q749 q750 q99 q751) rfl rfl rfl q766 (by decide +kernel) ⟨Nat.le_trans (Nat.le_of_ble_eq_true rfl) hF, Nat.le_trans (Nat.le_of_ble_eq_true rfl) hL⟩) rfl hg hst d) (fun H1 locs1 h1 => kk μ1 H1 locs1 hf h1)
  rw [if_neg hc7] at ho
  by_cases hc8 : ci = 8
  · subst hc8
    rw [if_pos rfl] at ho
    exact r_back0 X h (g_runU (As := [.ref (ad b1), .int a2]) X h he (wX5_throwSand l Γ ad μ i b1 a2 _ ho _) (T := TX8) rfl (va_cwO (owner := "SandPiano$Key") (x := ⟨"SandPiano$Key", "throwSand", "(LSandPiano$Sands;I)V"⟩) 2 X.hts (lw_O hl q729 q727 q762 q763 q97 q764) rfl rfl rfl q766 (by decide +kernel) ⟨Nat.le_trans (Nat.le_of_ble_eq_true rfl) hF, Nat.le_trans (Nat.le_of_ble_eq_true rfl) hL⟩) rfl hg hst d) (fun H1 locs1 h1 => kk μ1 H1 locs1 hf h1)
  rw [if_neg hc8] at ho
  cases ho
def vX3_pay (μ : gM) (i : Nat) : gR := gkc μ i fun c => if c = 3 then fX3_pay μ i else if c = 4 then fX3_pay μ i else if c = 5 then fX3_pay μ i else if c = 6 then fX3_pay μ i else if c = 7 then fX3_pay μ i else if c = 8 then fX3_pay μ i else none
set_option maxHeartbeats 4000000 in
theorem wvX3_pay {p : Program} {l : Launch} {e : Env} {R : Room} {s : State} {m : MethodId} {args : Array Value} {below : List Frame} {meth : Method} {c : Code} {H : Heap} {locs : List Loc} {cells slots : Nat} {Q : State → Prop} {cc : ByteArray} {pc nL : Nat} {ls : Array Slot} {rest st0 : List Value} {own : String} {Γ : gG} {A : Nat → Prop} {nz : Nat} {ad : Nat → Nat} {μ : gM} {r : Option Value × gM} {i index : Nat} {kt : Int32 → gM → gR} (X : gX p m c cc nL s args own Γ A) (h : gWd Γ A nz ad μ s.heap H locs) (hl : Cond.methodLink own index ⟨"SandPiano$Key", "pay", "()I"⟩ ∈ lw_all) (hF : 1 ≤ R.frames) (hL : 20 ≤ R.locals) (hg : gSt m ls nL R cells slots 0 0 rest) (hst : st0 = ([] : List Value).reverse ++ .ref (ad i) :: rest) (d : decode cc pc = .ok (.invokevirtual index, 3)) (hf : cI (vX3_pay μ i) kt = some r)
    (kk : ∀ (x : Int32) (μ1 : gM) (H1 : Heap) (locs1 : List Loc), kt x μ1 = some r → gWd Γ A nz ad μ1 s.heap H1 locs1 → W p l e R s m args below meth c H1 locs1 cells slots Q (F0 m (pc + 3) ls (.int x :: rest))) : W p l e R s m args below meth c H locs cells slots Q (F0 m pc ls st0) := by
  obtain ⟨x, μ1, ho, hf⟩ := cI_some hf
  obtain ⟨ci, fs, he, ho⟩ := gkc_some ho
  by_cases hc3 : ci = 3
  · subst hc3
    rw [if_pos rfl] at ho
    exact r_back0 X h (g_runU (As := []) X h he (wX3_pay l Γ ad μ i _ ho _) (T := TX3) rfl (va_cwU (owner := "SandPiano$Key") (x := ⟨"SandPiano$Key", "pay", "()I"⟩) 0 X.hts (lw_U hl q590 q589 q588 q95 q596) rfl rfl rfl rfl (by decide +kernel) ⟨Nat.le_trans (Nat.le_of_ble_eq_true rfl) hF, Nat.le_trans (Nat.le_of_ble_eq_true rfl) hL⟩) rfl hg hst d) (fun H1 locs1 h1 => kk x μ1 H1 locs1 hf h1)
  rw [if_neg hc3] at ho
  by_cases hc4 : ci = 4
  · subst hc4
    rw [if_pos rfl] at ho
    exact r_back0 X h (g_runU (As := []) X h he (wX3_pay l Γ ad μ i _ ho _) (T := TX4) rfl (va_cwU (owner := "SandPiano$Key") (x := ⟨"SandPiano$Key", "pay", "()I"⟩) 0 X.hts (lw_U hl q590 q591 q588 q95 q596) rfl rfl rfl rfl (by decide +kernel) ⟨Nat.le_trans (Nat.le_of_ble_eq_true rfl) hF, Nat.le_trans (Nat.le_of_ble_eq_true rfl) hL⟩) rfl hg hst d) (fun H1 locs1 h1 => kk x μ1 H1 locs1 hf h1)
  rw [if_neg hc4] at ho
  by_cases hc5 : ci = 5
  · subst hc5
    rw [if_pos rfl] at ho
    exact r_back0 X h (g_runU (As := []) X h he (wX3_pay l Γ ad μ i _ ho _) (T := TX5) rfl (va_cwU (owner := "SandPiano$Key") (x := ⟨"SandPiano$Key", "pay", "()I"⟩) 0 X.hts (lw_U hl q590 q595 q588 q95 q596) rfl rfl rfl rfl (by decide +kernel) ⟨Nat.le_trans (Nat.le_of_ble_eq_true rfl) hF, Nat.le_trans (Nat.le_of_ble_eq_true rfl) hL⟩) rfl hg hst d) (fun H1 locs1 h1 => kk x μ1 H1 locs1 hf h1)
  rw [if_neg hc5] at ho
  by_cases hc6 : ci = 6
  · subst hc6
    rw [if_pos rfl] at ho
    exact r_back0 X h (g_runU (As := []) X h he (wX3_pay l Γ ad μ i _ ho _) (T := TX6) rfl (va_cwU (owner := "SandPiano$Key") (x := ⟨"SandPiano$Key", "pay", "()I"⟩) 0 X.hts (lw_U hl q590 q592 q588 q95 q596) rfl rfl rfl rfl (by decide +kernel) ⟨Nat.le_trans (Nat.le_of_ble_eq_true rfl) hF, Nat.le_trans (Nat.le_of_ble_eq_true rfl) hL⟩) rfl hg hst d) (fun H1 locs1 h1 => kk x μ1 H1 locs1 hf h1)
  rw [if_neg hc6] at ho
  by_cases hc7 : ci = 7
  · subst hc7
    rw [if_pos rfl] at ho
    exact r_back0 X h (g_runU (As := []) X h he (wX3_pay l Γ ad μ i _ ho _) (T := TX7) rfl (va_cwU (owner := "SandPiano$Key") (x := ⟨"SandPiano$Key", "pay", "()I"⟩) 0 X.hts (lw_U hl q590 q593 q588 q95 q596) rfl rfl rfl rfl (by decide +kernel) ⟨Nat.le_trans (Nat.le_of_ble_eq_true rfl) hF, Nat.le_trans (Nat.le_of_ble_eq_true rfl) hL⟩) rfl hg hst d) (fun H1 locs1 h1 => kk x μ1 H1 locs1 hf h1)
  rw [if_neg hc7] at ho
  by_cases hc8 : ci = 8
  · subst hc8
    rw [if_pos rfl] at ho
    exact r_back0 X h (g_runU (As := []) X h he (wX3_pay l Γ ad μ i _ ho _) (T := TX8) rfl (va_cwU (owner := "SandPiano$Key") (x := ⟨"SandPiano$Key", "pay", "()I"⟩) 0 X.hts (lw_U hl q590 q594 q588 q95 q596) rfl rfl rfl rfl (by decide +kernel) ⟨Nat.le_trans (Nat.le_of_ble_eq_true rfl) hF, Nat.le_trans (Nat.le_of_ble_eq_true rfl) hL⟩) rfl hg hst d) (fun H1 locs1 h1 => kk x μ1 H1 locs1 hf h1)
  rw [if_neg hc8] at ho
  cases ho
def fX0_playIn (μ0 : gM) (b0 : Nat) (b1 : Nat) (a2 : Int32) : gR := gP (gfld μ0 b0 0 9) fun i1 => gaQ μ0 5 i1 a2 fun o2 => gnn o2 fun i3 => gI (gfld μ0 b0 0 7) fun x4 => cV (vX3_throwSand μ0 i3 b1 x4) fun μ6 => gP (gfld μ6 b1 1 0) fun i7 => gaI μ6 0 i7 8 fun x8 => gP (gfld μ6 b0 0 9) fun i9 => gaQ μ6 5 i9 a2 fun o10 => gnn o10 fun i11 => cI (vX3_pay μ6 i11) fun x12 μ13 => gsI μ13 0 i7 8 (x8 + x12) fun μ14 => some (none, μ14)
set_option maxHeartbeats 4000000 in
theorem wX0_playIn (l : Launch) (Γ : gG) (ad : Nat → Nat) (μ0 : gM) (b0 : Nat) (b1 : Nat) (a2 : Int32) (r : Option Value × gM) (hf : fX0_playIn μ0 b0 b1 a2 = some r) : gMt0 l Γ yX0_playIn (ws_ yX0_playIn cX0_playIn 3 none) ({ frames := 3, cells := 0, slots := 0, locals := 67 } : Room) 0 0 ad μ0 [.ref (ad b0), .ref (ad b1), .int a2] r := by
  intro sz
  refine g_start (maxL := 3) (ret := none) (by decide) rfl g_all (Nat.le_of_ble_eq_true rfl) ?_
  intro p e s m below meth c ls hr hlk hnm X h hl
  generalize gA ad μ0 sz = A at X h ⊢
  generalize ([.ref (ad b0), .ref (ad b1), .int a2] : List Value).toArray = args at X ⊢
  have X : gX p m c cX0_playIn 3 s args "SandPiano" Γ A := X
  have hl : lv_has ls 3 [(0, .ref (ad b0)), (1, .ref (ad b1)), (2, .int a2)] := hl
  show W p l e ({ frames := 3, cells := 0, slots := 0, locals := 67 } : Room) s m args below meth c s.heap [] 0 0 (MQ below (gQ0 Γ ad μ0.1 r A) args s 0 0 A) (F0 m 0 ls [])
  unfold fX0_playIn at hf
  refine lv_aload_n X.hx X.hb dX0_playIn_0 rfl (lv_at hl 0 rfl) ?_
  refine r_getP X h (ci := 0) (k := 9) (C := RX0) (T := TX0) (N := 36) rfl in_X0 (by decide) q151 rfl dX0_playIn_1 hf (fun i1 hf => ?_)
  refine lv_iload_n X.hx X.hb dX0_playIn_4 rfl (lv_at hl 2 rfl) ?_
  refine r_aald X h (t := 5) rfl rfl dX0_playIn_5 hf (fun o2 hf => ?_)
  refine r_nn hf (fun i3 hf => ?_)
  refine lv_aload_n X.hx X.hb dX0_playIn_6 rfl (lv_at hl 1 rfl) ?_
  refine lv_aload_n X.hx X.hb dX0_playIn_7 rfl (lv_at hl 0 rfl) ?_
  refine r_getI X h (ci := 0) (k := 7) (C := RX0) (T := TX0) (N := 36) rfl in_X0 (by decide) q149 rfl dX0_playIn_8 hf (fun x4 hf => ?_)
  refine wvX3_throwSand X h q726 (Nat.le_of_ble_eq_true rfl) (Nat.le_of_ble_eq_true rfl) (rest := []) ⟨hl.1, Nat.le_of_ble_eq_true rfl, Nat.le_of_ble_eq_true rfl, Nat.le_of_ble_eq_true rfl⟩ rfl dX0_playIn_11 hf (fun μ6 H locs hf h => ?_)
  refine lv_aload_n X.hx X.hb dX0_playIn_14 rfl (lv_at hl 1 rfl) ?_
  refine r_getNP X h (ci := 1) (k := 0) (C := RX1) (T := TX1) (N := 1) rfl in_X1 (by decide) 8 rfl rfl dX0_playIn_15 hf (fun i7 hf => ?_)
  refine lv_bipush (v := 8) X.hx X.hb dX0_playIn_18 (by decide) ?_
  refine lv_dup2_11 X.hx X.hb dX0_playIn_20 rfl rfl ?_
  refine r_iald X h dX0_playIn_21 hf (fun x8 hf => ?_)
  refine lv_aload_n X.hx X.hb dX0_playIn_22 rfl (lv_at hl 0 rfl) ?_
  refine r_getP X h (ci := 0) (k := 9) (C := RX0) (T := TX0) (N := 36) rfl in_X0 (by decide) q151 rfl dX0_playIn_23 hf (fun i9 hf => ?_)
  refine lv_iload_n X.hx X.hb dX0_playIn_26 rfl (lv_at hl 2 rfl) ?_
  refine r_aald X h (t := 5) rfl rfl dX0_playIn_27 hf (fun o10 hf => ?_)
  refine r_nn hf (fun i11 hf => ?_)
  refine wvX3_pay X h q587 (Nat.le_of_ble_eq_true rfl) (Nat.le_of_ble_eq_true rfl) (rest := [.int x8, .int 8, .ref (ad i7)]) ⟨hl.1, Nat.le_of_ble_eq_true rfl, Nat.le_of_ble_eq_true rfl, Nat.le_of_ble_eq_true rfl⟩ rfl dX0_playIn_28 hf (fun x12 μ13 H locs hf h => ?_)
  refine lv_iadd X.hx X.hb dX0_playIn_31 ?_
  refine r_iast X h dX0_playIn_32 hf (fun μ14 H locs hf h => ?_)
  exact r_rv X h hr hlk (Nat.le_of_ble_eq_true rfl) (Nat.le_of_ble_eq_true rfl) dX0_playIn_33 hf
