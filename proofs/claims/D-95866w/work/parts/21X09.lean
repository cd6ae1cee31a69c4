set_option maxRecDepth 100000
/-! X0_lay -/
def fX0_lay (μ0 : gM) (b0 : Nat) (a1 : Int32) (a2 : Int32) (a3 : Int32) : gR := gis μ0 b0 0 <| cI (fX0_at μ0 b0 a1 a2) fun x1 μ2 => if x1 = 1 then (gP (gfld μ2 b0 0 5) fun i3 => gaQ μ2 3 i3 a1 fun o4 => gnn o4 fun i5 => gsI μ2 0 i5 a2 a3 fun μ6 => some (some (.int x1), μ6)) else (some (some (.int x1), μ2))
set_option maxHeartbeats 4000000 in
theorem wX0_lay (l : Launch) (Γ : gG) (hst : l.stackTraces = false) (ad : Nat → Nat) (μ0 : gM) (b0 : Nat) (a1 : Int32) (a2 : Int32) (a3 : Int32) (r : Option Value × gM) (hf : fX0_lay μ0 b0 a1 a2 a3 = some r) : gMtE0 l Γ yX0_lay (ws_ yX0_lay cX0_lay 5 (some .int)) ({ frames := 10, cells := 3, slots := 222, locals := 10271 } : Room) 3 222 ad μ0 [.ref (ad b0), .int a1, .int a2, .int a3] r := by
  intro sz
  refine g_startE hst (maxL := 5) (ret := (some .int)) (by decide) rfl g_all (Nat.le_of_ble_eq_true rfl) ?_
  intro p e s m below meth c ls hr hlk hnm X Z h hl
  generalize gA ad μ0 sz = A at X Z h ⊢
  generalize ([.ref (ad b0), .int a1, .int a2, .int a3] : List Value).toArray = args at X ⊢
  have X : gX p m c cX0_lay 5 s args "SandPiano" Γ A := X
  have hl : lv_has ls 5 [(0, .ref (ad b0)), (1, .int a1), (2, .int a2), (3, .int a3)] := hl
  show W p l e ({ frames := 10, cells := 3, slots := 222, locals := 10271 } : Room) s m args below meth c s.heap [] 0 0 (MQ below (gQ0 Γ ad μ0.1 r A) args s 3 222 A) (F0 m 0 ls [])
  unfold fX0_lay at hf
  refine lv_aload_n X.hx X.hb dX0_lay_0 rfl (lv_at hl 0 rfl) ?_
  refine lv_iload_n X.hx X.hb dX0_lay_1 rfl (lv_at hl 1 rfl) ?_
  refine lv_iload_n X.hx X.hb dX0_lay_2 rfl (lv_at hl 2 rfl) ?_
  refine r_cE0 (As := [.int a1, .int a2]) (rest := []) (C := RX0) (T := TX0) (N := 36) X Z h hf (fun res hres => wX0_at l Γ Z.1 ad _ b0 a1 a2 res hres) rfl (x_cw 2 X.hts (lw_VW q355 q356 q357 q82 q358) rfl rfl rfl (by decide +kernel) ⟨Nat.le_of_ble_eq_true rfl, Nat.le_of_ble_eq_true rfl⟩) rfl ⟨hl.1, Nat.le_of_ble_eq_true rfl, Nat.le_of_ble_eq_true rfl, Nat.le_of_ble_eq_true rfl⟩ rfl dX0_lay_3 (fun x1 μ2 H locs hf h => ?_)
  refine lv_istore (lv' := [(4, .int x1), (0, .ref (ad b0)), (1, .int a1), (2, .int a2), (3, .int a3)]) X.hx X.hb dX0_lay_6 hl (by decide) rfl (fun ls hl => ?_)
  refine lv_iload X.hx X.hb dX0_lay_8 (lv_at hl 0 rfl) ?_
  refine lv_iconst (v := 1) X.hx X.hb dX0_lay_10 (by decide) ?_
  refine lv_icmp_ne (tgt := 23) X.hx X.hb dX0_lay_11 (by decide) (fun hc => ?_) (fun hc => ?_)
  · replace hf := gif_f hf hc
    clear hc
    refine lv_iload X.hx X.hb dX0_lay_23 (lv_at hl 0 rfl) ?_
    exact r_ri X h hr hlk (Nat.le_of_ble_eq_true rfl) (Nat.le_of_ble_eq_true rfl) dX0_lay_25 hf
  · replace hf := gif_t hf hc
    clear hc
    refine lv_aload_n X.hx X.hb dX0_lay_14 rfl (lv_at hl 1 rfl) ?_
    refine r_getP X h (ci := 0) (k := 5) (C := RX0) (T := TX0) (N := 36) rfl in_X0 (by decide) q146 rfl dX0_lay_15 hf (fun i3 hf => ?_)
    refine lv_iload_n X.hx X.hb dX0_lay_18 rfl (lv_at hl 2 rfl) ?_
    refine r_aald X h (t := 3) rfl rfl dX0_lay_19 hf (fun o4 hf => ?_)
    refine r_nn hf (fun i5 hf => ?_)
    refine lv_iload_n X.hx X.hb dX0_lay_20 rfl (lv_at hl 3 rfl) ?_
    refine lv_iload_n X.hx X.hb dX0_lay_21 rfl (lv_at hl 4 rfl) ?_
    refine r_iast X h dX0_lay_22 hf (fun μ6 H locs hf h => ?_)
    refine lv_iload X.hx X.hb dX0_lay_23 (lv_at hl 0 rfl) ?_
    exact r_ri X h hr hlk (Nat.le_of_ble_eq_true rfl) (Nat.le_of_ble_eq_true rfl) dX0_lay_25 hf
/-! X0_lower -/
def fX0_lower (μ0 : gM) (b0 : Nat) : gR := gJ (gfld μ0 b0 0 4) fun x1 => some (some (.long x1), μ0)
set_option maxHeartbeats 4000000 in
theorem wX0_lower (l : Launch) (Γ : gG) (ad : Nat → Nat) (μ0 : gM) (b0 : Nat) (r : Option Value × gM) (hf : fX0_lower μ0 b0 = some r) : gMt0 l Γ yX0_lower (ws_ yX0_lower cX0_lower 1 (some .long)) ({ frames := 0, cells := 0, slots := 0, locals := 0 } : Room) 0 0 ad μ0 [.ref (ad b0)] r := by
  intro sz
  refine g_start (maxL := 1) (ret := (some .long)) (by decide) rfl g_all (Nat.le_of_ble_eq_true rfl) ?_
  intro p e s m below meth c ls hr hlk hnm X h hl
  generalize gA ad μ0 sz = A at X h ⊢
  generalize ([.ref (ad b0)] : List Value).toArray = args at X ⊢
  have X : gX p m c cX0_lower 1 s args "SandPiano" Γ A := X
  have hl : lv_has ls 1 [(0, .ref (ad b0))] := hl
  show W p l e ({ frames := 0, cells := 0, slots := 0, locals := 0 } : Room) s m args below meth c s.heap [] 0 0 (MQ below (gQ0 Γ ad μ0.1 r A) args s 0 0 A) (F0 m 0 ls [])
  unfold fX0_lower at hf
  refine lv_aload_n X.hx X.hb dX0_lower_0 rfl (lv_at hl 0 rfl) ?_
  refine r_getJ X h (ci := 0) (k := 4) (C := RX0) (T := TX0) (N := 36) rfl in_X0 (by decide) q145 rfl dX0_lower_1 hf (fun x1 hf => ?_)
  exact r_rl X h hr hlk (Nat.le_of_ble_eq_true rfl) (Nat.le_of_ble_eq_true rfl) dX0_lower_4 hf
/-! X4_throwsNow -/
def fX4_throwsNow (μ0 : gM) (b0 : Nat) (b1 : Nat) : gR := gP (gfld μ0 b1 1 0) fun i1 => cI (vX4_place μ0 b0) fun x2 μ3 => gaI μ3 0 i1 x2 fun x4 => cI (fJ10_min μ3 2 x4) fun x5 μ6 => some (some (.int x5), μ6)
set_option maxHeartbeats 4000000 in
theorem wX4_throwsNow (l : Launch) (Γ : gG) (ad : Nat → Nat) (μ0 : gM) (b0 : Nat) (b1 : Nat) (r : Option Value × gM) (hf : fX4_throwsNow μ0 b0 b1 = some r) : gMt0 l Γ yX4_throwsNow (ws_ yX4_throwsNow cX4_throwsNow 2 (some .int)) ({ frames := 1, cells := 0, slots := 0, locals := 21 } : Room) 0 0 ad μ0 [.ref (ad b0), .ref (ad b1)] r := by
  intro sz
  refine g_start (maxL := 2) (ret := (some .int)) (by decide) rfl g_all (Nat.le_of_ble_eq_true rfl) ?_
  intro p e s m below meth c ls hr hlk hnm X h hl
  generalize gA ad μ0 sz = A at X h ⊢
  generalize ([.ref (ad b0), .ref (ad b1)] : List Value).toArray = args at X ⊢
  have X : gX p m c cX4_throwsNow 2 s args "SandPiano$Bass" Γ A := X
  have hl : lv_has ls 2 [(0, .ref (ad b0)), (1, .ref (ad b1))] := hl
  show W p l e ({ frames := 1, cells := 0, slots := 0, locals := 21 } : Room) s m args below meth c s.heap [] 0 0 (MQ below (gQ0 Γ ad μ0.1 r A) args s 0 0 A) (F0 m 0 ls [])
  unfold fX4_throwsNow at hf
  refine lv_iconst (v := 2) X.hx X.hb dX4_throwsNow_0 (by decide) ?_
  refine lv_aload_n X.hx X.hb dX4_throwsNow_1 rfl (lv_at hl 1 rfl) ?_
  refine r_getNP X h (ci := 1) (k := 0) (C := RX1) (T := TX1) (N := 1) rfl in_X1 (by decide) 6 rfl rfl dX4_throwsNow_2 hf (fun i1 hf => ?_)
  refine lv_aload_n X.hx X.hb dX4_throwsNow_5 rfl (lv_at hl 0 rfl) ?_
  refine wvX4_place X h q647 (Nat.le_of_ble_eq_true rfl) (Nat.le_of_ble_eq_true rfl) (rest := [.ref (ad i1), .int 2]) ⟨hl.1, Nat.le_of_ble_eq_true rfl, Nat.le_of_ble_eq_true rfl, Nat.le_of_ble_eq_true rfl⟩ rfl dX4_throwsNow_6 hf (fun x2 μ3 H locs hf h => ?_)
  refine r_iald X h dX4_throwsNow_9 hf (fun x4 hf => ?_)
  refine r_cSI (As := [.int 2, .int x4]) (rest := []) X h hf (fun res hres => wJ10_min l Γ ad _ 2 x4 res hres) (va_cwS 2 X.hts (lw_S q654 q655 q102 q656) rfl rfl rfl (by decide +kernel) ⟨Nat.le_of_ble_eq_true rfl, Nat.le_of_ble_eq_true rfl⟩) rfl ⟨hl.1, Nat.le_of_ble_eq_true rfl, Nat.le_of_ble_eq_true rfl, Nat.le_of_ble_eq_true rfl⟩ rfl dX4_throwsNow_10 (fun x5 μ6 H locs hf h => ?_)
  exact r_ri X h hr hlk (Nat.le_of_ble_eq_true rfl) (Nat.le_of_ble_eq_true rfl) dX4_throwsNow_13 hf
/-! X6_carries -/
def fX6_carries (μ0 : gM) (b0 : Nat) (b1 : Nat) : gR := gP (gfld μ0 b1 1 0) fun i1 => cI (vX6_left μ0 b0) fun x2 μ3 => gaI μ3 0 i1 x2 fun x4 => some (some (.int x4), μ3)
set_option maxHeartbeats 4000000 in
theorem wX6_carries (l : Launch) (Γ : gG) (ad : Nat → Nat) (μ0 : gM) (b0 : Nat) (b1 : Nat) (r : Option Value × gM) (hf : fX6_carries μ0 b0 b1 = some r) : gMt0 l Γ yX6_carries (ws_ yX6_carries cX6_carries 2 (some .int)) ({ frames := 1, cells := 0, slots := 0, locals := 20 } : Room) 0 0 ad μ0 [.ref (ad b0), .ref (ad b1)] r := by
  intro sz
  refine g_start (maxL := 2) (ret := (some .int)) (by decide) rfl g_all (Nat.le_of_ble_eq_true rfl) ?_
  intro p e s m below meth c ls hr hlk hnm X h hl
  generalize gA ad μ0 sz = A at X h ⊢
  generalize ([.ref (ad b0), .ref (ad b1)] : List Value).toArray = args at X ⊢
  have X : gX p m c cX6_carries 2 s args "SandPiano$Crab" Γ A := X
  have hl : lv_has ls 2 [(0, .ref (ad b0)), (1, .ref (ad b1))] := hl
  show W p l e ({ frames := 1, cells := 0, slots := 0, locals := 20 } : Room) s m args below meth c s.heap [] 0 0 (MQ below (gQ0 Γ ad μ0.1 r A) args s 0 0 A) (F0 m 0 ls [])
  unfold fX6_carries at hf
  refine lv_aload_n X.hx X.hb dX6_carries_0 rfl (lv_at hl 1 rfl) ?_
  refine r_getNP X h (ci := 1) (k := 0) (C := RX1) (T := TX1) (N := 1) rfl in_X1 (by decide) 5 rfl rfl dX6_carries_1 hf (fun i1 hf => ?_)
  refine lv_aload_n X.hx X.hb dX6_carries_4 rfl (lv_at hl 0 rfl) ?_
  refine wvX6_left X h q679 (Nat.le_of_ble_eq_true rfl) (Nat.le_of_ble_eq_true rfl) (rest := [.ref (ad i1)]) ⟨hl.1, Nat.le_of_ble_eq_true rfl, Nat.le_of_ble_eq_true rfl, Nat.le_of_ble_eq_true rfl⟩ rfl dX6_carries_5 hf (fun x2 μ3 H locs hf h => ?_)
  refine r_iald X h dX6_carries_8 hf (fun x4 hf => ?_)
  exact r_ri X h hr hlk (Nat.le_of_ble_eq_true rfl) (Nat.le_of_ble_eq_true rfl) dX6_carries_9 hf
/-! X7_before -/
def fX7_before (μ0 : gM) (b0 : Nat) : gR := cI (vX7_place μ0 b0) fun x1 μ2 => some (some (.int x1), μ2)
set_option maxHeartbeats 4000000 in
theorem wX7_before (l : Launch) (Γ : gG) (ad : Nat → Nat) (μ0 : gM) (b0 : Nat) (r : Option Value × gM) (hf : fX7_before μ0 b0 = some r) : gMt0 l Γ yX7_before (ws_ yX7_before cX7_before 1 (some .int)) ({ frames := 1, cells := 0, slots := 0, locals := 20 } : Room) 0 0 ad μ0 [.ref (ad b0)] r := by
  intro sz
  refine g_start (maxL := 1) (ret := (some .int)) (by decide) rfl g_all (Nat.le_of_ble_eq_true rfl) ?_
  intro p e s m below meth c ls hr hlk hnm X h hl
  generalize gA ad μ0 sz = A at X h ⊢
  generalize ([.ref (ad b0)] : List Value).toArray = args at X ⊢
  have X : gX p m c cX7_before 1 s args "SandPiano$Drum" Γ A := X
  have hl : lv_has ls 1 [(0, .ref (ad b0))] := hl
  show W p l e ({ frames := 1, cells := 0, slots := 0, locals := 20 } : Room) s m args below meth c s.heap [] 0 0 (MQ below (gQ0 Γ ad μ0.1 r A) args s 0 0 A) (F0 m 0 ls [])
  unfold fX7_before at hf
  refine lv_aload_n X.hx X.hb dX7_before_0 rfl (lv_at hl 0 rfl) ?_
  refine wvX7_place X h q689 (Nat.le_of_ble_eq_true rfl) (Nat.le_of_ble_eq_true rfl) (rest := []) ⟨hl.1, Nat.le_of_ble_eq_true rfl, Nat.le_of_ble_eq_true rfl, Nat.le_of_ble_eq_true rfl⟩ rfl dX7_before_1 hf (fun x1 μ2 H locs hf h => ?_)
  exact r_ri X h hr hlk (Nat.le_of_ble_eq_true rfl) (Nat.le_of_ble_eq_true rfl) dX7_before_4 hf
/-! X8_silent -/
def fX8_silent (μ0 : gM) (b0 : Nat) (b1 : Nat) : gR := gI (gfld μ0 b1 0 7) fun x1 => gis μ0 b1 0 <| cI (fX0_playable μ0 b1) fun x2 μ3 => cI (fJ11_bitCount μ3 x2) fun x4 μ5 => some (some (.int (x1 - x4)), μ5)
set_option maxHeartbeats 4000000 in
theorem wX8_silent (l : Launch) (Γ : gG) (ad : Nat → Nat) (μ0 : gM) (b0 : Nat) (b1 : Nat) (r : Option Value × gM) (hf : fX8_silent μ0 b0 b1 = some r) : gMt0 l Γ yX8_silent (ws_ yX8_silent cX8_silent 2 (some .int)) ({ frames := 5, cells := 0, slots := 0, locals := 104 } : Room) 0 0 ad μ0 [.ref (ad b0), .ref (ad b1)] r := by
  intro sz
  refine g_start (maxL := 2) (ret := (some .int)) (by decide) rfl g_all (Nat.le_of_ble_eq_true rfl) ?_
  intro p e s m below meth c ls hr hlk hnm X h hl
  generalize gA ad μ0 sz = A at X h ⊢
  generalize ([.ref (ad b0), .ref (ad b1)] : List Value).toArray = args at X ⊢
  have X : gX p m c cX8_silent 2 s args "SandPiano$Ring" Γ A := X
  have hl : lv_has ls 2 [(0, .ref (ad b0)), (1, .ref (ad b1))] := hl
  show W p l e ({ frames := 5, cells := 0, slots := 0, locals := 104 } : Room) s m args below meth c s.heap [] 0 0 (MQ below (gQ0 Γ ad μ0.1 r A) args s 0 0 A) (F0 m 0 ls [])
  unfold fX8_silent at hf
  refine lv_aload_n X.hx X.hb dX8_silent_0 rfl (lv_at hl 1 rfl) ?_
  refine r_getNI X h (ci := 0) (k := 7) (C := RX0) (T := TX0) (N := 36) rfl in_X0 (by decide) 9 rfl rfl dX8_silent_1 hf (fun x1 hf => ?_)
  refine lv_aload_n X.hx X.hb dX8_silent_4 rfl (lv_at hl 1 rfl) ?_
  refine r_cNI (As := []) (rest := [.int x1]) (C := RX0) (T := TX0) (N := 36) X h hf (fun res hres => wX0_playable l Γ ad _ b1 res hres) rfl (⟨va_cnB 0 X.hts (lw_meth q699) rfl rfl rfl (X.2.1.2.1 3 _ rfl) (X.hts _ q82) (by decide +kernel) ⟨Nat.le_of_ble_eq_true rfl, Nat.le_of_ble_eq_true rfl⟩, X.hts _ q698, X.hts _ qs11⟩) rfl ⟨hl.1, Nat.le_of_ble_eq_true rfl, Nat.le_of_ble_eq_true rfl, Nat.le_of_ble_eq_true rfl⟩ rfl dX8_silent_5 (fun x2 μ3 H locs hf h => ?_)
  refine r_cSI (As := [.int x2]) (rest := [.int x1]) X h hf (fun res hres => wJ11_bitCount l Γ ad _ x2 res hres) (va_cwS 1 X.hts (lw_S q704 q705 q103 q706) rfl rfl rfl (by decide +kernel) ⟨Nat.le_of_ble_eq_true rfl, Nat.le_of_ble_eq_true rfl⟩) rfl ⟨hl.1, Nat.le_of_ble_eq_true rfl, Nat.le_of_ble_eq_true rfl, Nat.le_of_ble_eq_true rfl⟩ rfl dX8_silent_8 (fun x4 μ5 H locs hf h => ?_)
  refine lv_isub X.hx X.hb dX8_silent_11 ?_
  exact r_ri X h hr hlk (Nat.le_of_ble_eq_true rfl) (Nat.le_of_ble_eq_true rfl) dX8_silent_12 hf
/-! J10_max -/
def fJ10_max (μ0 : gM) (a1 : Int32) (a2 : Int32) : gR := if a1 < a2 then (some (some (.int a2), μ0)) else (some (some (.int a1), μ0))
set_option maxHeartbeats 4000000 in
theorem wJ10_max (l : Launch) (Γ : gG) (ad : Nat → Nat) (μ0 : gM) (a1 : Int32) (a2 : Int32) (r : Option Value × gM) (hf : fJ10_max μ0 a1 a2 = some r) : gMt0 l Γ yJ10_max (ws_ yJ10_max cJ10_max 2 (some .int)) ({ frames := 0, cells := 0, slots := 0, locals := 0 } : Room) 0 0 ad μ0 [.int a1, .int a2] r := by
  intro sz
  refine g_startF (maxL := 2) (ret := (some .int)) (by decide +kernel) rfl g_all (Nat.le_of_ble_eq_true rfl) ?_
  intro p e s m below meth c ls hr hlk hnm X h hl
  generalize gA ad μ0 sz = A at X h ⊢
  generalize ([.int a1, .int a2] : List Value).toArray = args at X ⊢
  have X : gX p m c cJ10_max 2 s args "java/lang/Math" Γ A := X
  have hl : lv_has ls 2 [(0, .int a1), (1, .int a2)] := hl
  show W p l e ({ frames := 0, cells := 0, slots := 0, locals := 0 } : Room) s m args below meth c s.heap [] 0 0 (MQ below (gQ0 Γ ad μ0.1 r A) args s 0 0 A) (F0 m 0 ls [])
  unfold fJ10_max at hf
  refine lv_iload_n X.hx X.hb dJ10_max_0 rfl (lv_at hl 0 rfl) ?_
  refine lv_iload_n X.hx X.hb dJ10_max_1 rfl (lv_at hl 1 rfl) ?_
  refine lv_icmp_lt (tgt := 9) X.hx X.hb dJ10_max_2 (by decide) (fun hc => ?_) (fun hc => ?_)
  · replace hf := gif_t hf hc
    clear hc
    refine lv_iload_n X.hx X.hb dJ10_max_9 rfl (lv_at hl 1 rfl) ?_
    exact r_ri X h hr hlk (Nat.le_of_ble_eq_true rfl) (Nat.le_of_ble_eq_true rfl) dJ10_max_10 hf
  · replace hf := gif_f hf hc
    clear hc
    refine lv_iload_n X.hx X.hb dJ10_max_5 rfl (lv_at hl 0 rfl) ?_
    refine lv_goto (tgt := 10) X.hx X.hb dJ10_max_6 (by decide) ?_
    exact r_ri X h hr hlk (Nat.le_of_ble_eq_true rfl) (Nat.le_of_ble_eq_true rfl) dJ10_max_10 hf
/-! X5_above -/
def vX5_place (μ : gM) (i : Nat) : gR := gkc μ i fun c => if c = 5 then fX3_place μ i else if c = 8 then fX3_place μ i else none
set_option maxHeartbeats 4000000 in
theorem wvX5_place {p : Program} {l : Launch} {e : Env} {R : Room} {s : State} {m : MethodId} {args : Array Value} {below : List Frame} {meth : Method} {c : Code} {H : Heap} {locs : List Loc} {cells slots : Nat} {Q : State → Prop} {cc : ByteArray} {pc nL : Nat} {ls : Array Slot} {rest st0 : List Value} {own : String} {Γ : gG} {A : Nat → Prop} {nz : Nat} {ad : Nat → Nat} {μ : gM} {r : Option Value × gM} {i index : Nat} {kt : Int32 → gM → gR} (X : gX p m c cc nL s args own Γ A) (h : gWd Γ A nz ad μ s.heap H locs) (hl : Cond.methodLink own index ⟨"SandPiano$Shell", "place", "()I"⟩ ∈ lw_all) (hF : 1 ≤ R.frames) (hL : 20 ≤ R.locals) (hg : gSt m ls nL R cells slots 0 0 rest) (hst : st0 = ([] : List Value).reverse ++ .ref (ad i) :: rest) (d : decode cc pc = .ok (.invokevirtual index, 3)) (hf : cI (vX5_place μ i) kt = some r)
    (kk : ∀ (x : Int32) (μ1 : gM) (H1 : Heap) (locs1 : List Loc), kt x μ1 = some r → gWd Γ A nz ad μ1 s.heap H1 locs1 → W p l e R s m args below meth c H1 locs1 cells slots Q (F0 m (pc + 3) ls (.int x :: rest))) : W p l e R s m args below meth c H locs cells slots Q (F0 m pc ls st0) := by
  obtain ⟨x, μ1, ho, hf⟩ := cI_some hf
  obtain ⟨ci, fs, he, ho⟩ := gkc_some ho
  by_cases hc5 : ci = 5
  · subst hc5
    rw [if_pos rfl] at ho
    exact r_back0 X h (g_runU (As := []) X h he (wX3_place l Γ ad μ i _ ho _) (T := TX5) rfl (va_cwU (owner := "SandPiano$Key") (x := ⟨"SandPiano$Shell", "place", "()I"⟩) 0 X.hts (lw_U hl q664 q666 q652 q95 q653) rfl rfl rfl rfl (by decide +kernel) ⟨Nat.le_trans (Nat.le_of_ble_eq_true rfl) hF, Nat.le_trans (Nat.le_of_ble_eq_true rfl) hL⟩) rfl hg hst d) (fun H1 locs1 h1 => kk x μ1 H1 locs1 hf h1)
  rw [if_neg hc5] at ho
  by_cases hc8 : ci = 8
  · subst hc8
    rw [if_pos rfl] at ho
    exact r_back0 X h (g_runU (As := []) X h he (wX3_place l Γ ad μ i _ ho _) (T := TX8) rfl (va_cwU (owner := "SandPiano$Key") (x := ⟨"SandPiano$Shell", "place", "()I"⟩) 0 X.hts (lw_U hl q664 q665 q652 q95 q653) rfl rfl rfl rfl (by decide +kernel) ⟨Nat.le_trans (Nat.le_of_ble_eq_true rfl) hF, Nat.le_trans (Nat.le_of_ble_eq_true rfl) hL⟩) rfl hg hst d) (fun H1 locs1 h1 => kk x μ1 H1 locs1 hf h1)
  rw [if_neg hc8] at ho
  cases ho
def vX5_strength (μ : gM) (i : Nat) : gR := gkc μ i fun c => if c = 5 then fX3_strength μ i else if c = 8 then fX3_strength μ i else none
set_option maxHeartbeats 4000000 in
theorem wvX5_strength {p : Program} {l : Launch} {e : Env} {R : Room} {s : State} {m : MethodId} {args : Array Value} {below : List Frame} {meth : Method} {c : Code} {H : Heap} {locs : List Loc} {cells slots : Nat} {Q : State → Prop} {cc : ByteArray} {pc nL : Nat} {ls : Array Slot} {rest st0 : List Value} {own : String} {Γ : gG} {A : Nat → Prop} {nz : Nat} {ad : Nat → Nat} {μ : gM} {r : Option Value × gM} {i index : Nat} {kt : Int32 → gM → gR} (X : gX p m c cc nL s args own Γ A) (h : gWd Γ A nz ad μ s.heap H locs) (hl : Cond.methodLink own index ⟨"SandPiano$Shell", "strength", "()I"⟩ ∈ lw_all) (hF : 1 ≤ R.frames) (hL : 20 ≤ R.locals) (hg : gSt m ls nL R cells slots 0 0 rest) (hst : st0 = ([] : List Value).reverse ++ .ref (ad i) :: rest) (d : decode cc pc = .ok (.invokevirtual index, 3)) (hf : cI (vX5_strength μ i) kt = some r)
    (kk : ∀ (x : Int32) (μ1 : gM) (H1 : Heap) (locs1 : List Loc), kt x μ1 = some r → gWd Γ A nz ad μ1 s.heap H1 locs1 → W p l e R s m args below meth c H1 locs1 cells slots Q (F0 m (pc + 3) ls (.int x :: rest))) : W p l e R s m args below meth c H locs cells slots Q (F0 m pc ls st0) := by
  obtain ⟨x, μ1, ho, hf⟩ := cI_some hf
  obtain ⟨ci, fs, he, ho⟩ := gkc_some ho
  by_cases hc5 : ci = 5
  · subst hc5
    rw [if_pos rfl] at ho
    exact r_back0 X h (g_runU (As := []) X h he (wX3_strength l Γ ad μ i _ ho _) (T := TX5) rfl (va_cwU (owner := "SandPiano$Key") (x := ⟨"SandPiano$Shell", "strength", "()I"⟩) 0 X.hts (lw_U hl q668 q671 q578 q95 q586) rfl rfl rfl rfl (by decide +kernel) ⟨Nat.le_trans (Nat.le_of_ble_eq_true rfl) hF, Nat.le_trans (Nat.le_of_ble_eq_true rfl) hL⟩) rfl hg hst d) (fun H1 locs1 h1 => kk x μ1 H1 locs1 hf h1)
  rw [if_neg hc5] at ho
  by_cases hc8 : ci = 8
  · subst hc8
    rw [if_pos rfl] at ho
    exact r_back0 X h (g_runU (As := []) X h he (wX3_strength l Γ ad μ i _ ho _) (T := TX8) rfl (va_cwU (owner := "SandPiano$Key") (x := ⟨"SandPiano$Shell", "strength", "()I"⟩) 0 X.hts (lw_U hl q668 q670 q578 q95 q586) rfl rfl rfl rfl (by decide +kernel) ⟨Nat.le_trans (Nat.le_of_ble_eq_true rfl) hF, Nat.le_trans (Nat.le_of_ble_eq_true rfl) hL⟩) rfl hg hst d) (fun H1 locs1 h1 => kk x μ1 H1 locs1 hf h1)
  rw [if_neg hc8] at ho
  cases ho
def fX5_above (μ0 : gM) (b0 : Nat) (b1 : Nat) : gR := gP (gfld μ0 b1 1 0) fun i1 => cI (vX5_place μ0 b0) fun x2 μ3 => gaI μ3 0 i1 x2 fun x4 => cI (vX5_strength μ3 b0) fun x5 μ6 => cI (fJ10_max μ6 0 (x4 - x5)) fun x7 μ8 => some (some (.int x7), μ8)
set_option maxHeartbeats 4000000 in
theorem wX5_above (l : Launch) (Γ : gG) (ad : Nat → Nat) (μ0 : gM) (b0 : Nat) (b1 : Nat) (r : Option Value × gM) (hf : fX5_above μ0 b0 b1 = some r) : gMt0 l Γ yX5_above (ws_ yX5_above cX5_above 2 (some .int)) ({ frames := 1, cells := 0, slots := 0, locals := 21 } : Room) 0 0 ad μ0 [.ref (ad b0), .ref (ad b1)] r := by
  intro sz
  refine g_start (maxL := 2) (ret := (some .int)) (by decide) rfl g_all (Nat.le_of_ble_eq_true rfl) ?_
  intro p e s m below meth c ls hr hlk hnm X h hl
  generalize gA ad μ0 sz = A at X h ⊢
  generalize ([.ref (ad b0), .ref (ad b1)] : List Value).toArray = args at X ⊢
  have X : gX p m c cX5_above 2 s args "SandPiano$Shell" Γ A := X
  have hl : lv_has ls 2 [(0, .ref (ad b0)), (1, .ref (ad b1))] := hl
  show W p l e ({ frames := 1, cells := 0, slots := 0, locals := 21 } : Room) s m args below meth c s.heap [] 0 0 (MQ below (gQ0 Γ ad μ0.1 r A) args s 0 0 A) (F0 m 0 ls [])
  unfold fX5_above at hf
  refine lv_iconst (v := 0) X.hx X.hb dX5_above_0 (by decide) ?_
  refine lv_aload_n X.hx X.hb dX5_above_1 rfl (lv_at hl 1 rfl) ?_
  refine r_getNP X h (ci := 1) (k := 0) (C := RX1) (T := TX1) (N := 1) rfl in_X1 (by decide) 7 rfl rfl dX5_above_2 hf (fun i1 hf => ?_)
  refine lv_aload_n X.hx X.hb dX5_above_5 rfl (lv_at hl 0 rfl) ?_
  refine wvX5_place X h q663 (Nat.le_of_ble_eq_true rfl) (Nat.le_of_ble_eq_true rfl) (rest := [.ref (ad i1), .int 0]) ⟨hl.1, Nat.le_of_ble_eq_true rfl, Nat.le_of_ble_eq_true rfl, Nat.le_of_ble_eq_true rfl⟩ rfl dX5_above_6 hf (fun x2 μ3 H locs hf h => ?_)
  refine r_iald X h dX5_above_9 hf (fun x4 hf => ?_)
  refine lv_aload_n X.hx X.hb dX5_above_10 rfl (lv_at hl 0 rfl) ?_
  refine wvX5_strength X h q667 (Nat.le_of_ble_eq_true rfl) (Nat.le_of_ble_eq_true rfl) (rest := [.int x4, .int 0]) ⟨hl.1, Nat.le_of_ble_eq_true rfl, Nat.le_of_ble_eq_true rfl, Nat.le_of_ble_eq_true rfl⟩ rfl dX5_above_11 hf (fun x5 μ6 H locs hf h => ?_)
  refine lv_isub X.hx X.hb dX5_above_14 ?_
  refine r_cSI (As := [.int 0, .int (x4 - x5)]) (rest := []) X h hf (fun res hres => wJ10_max l Γ ad _ 0 (x4 - x5) res hres) (va_cwS 2 X.hts (lw_S q672 q673 q102 q674) rfl rfl rfl (by decide +kernel) ⟨Nat.le_of_ble_eq_true rfl, Nat.le_of_ble_eq_true rfl⟩) rfl ⟨hl.1, Nat.le_of_ble_eq_true rfl, Nat.le_of_ble_eq_true rfl, Nat.le_of_ble_eq_true rfl⟩ rfl dX5_above_15 (fun x7 μ8 H locs hf h => ?_)
  exact r_ri X h hr hlk (Nat.le_of_ble_eq_true rfl) (Nat.le_of_ble_eq_true rfl) dX5_above_18 hf
/-! X0_mark -/
def vX4_throwsNow (μ : gM) (i : Nat) (b1 : Nat) : gR := gkc μ i fun c => if c = 4 then fX4_throwsNow μ i b1 else if c = 7 then fX4_throwsNow μ i b1 else none
set_option maxHeartbeats 4000000 in
theorem wvX4_throwsNow {p : Program} {l : Launch} {e : Env} {R : Room} {s : State} {m : MethodId} {args : Array Value} {below : List Frame} {meth : Method} {c : Code} {H : Heap} {locs : List Loc} {cells slots : Nat} {Q : State → Prop} {cc : ByteArray} {pc nL : Nat} {ls : Array Slot} {rest st0 : List Value} {own : String} {Γ : gG} {A : Nat → Prop} {nz : Nat} {ad : Nat → Nat} {μ : gM} {r : Option Value × gM} {i index : Nat} {b1 : Nat} {kt : Int32 → gM → gR} (X : gX p m c cc nL s args own Γ A) (h : gWd Γ A nz ad μ s.heap H locs) (hl : Cond.methodLink own index ⟨"SandPiano$Bass", "throwsNow", "(LSandPiano$Sands;)I"⟩ ∈ lw_all) (hF : 2 ≤ R.frames) (hL : 42 ≤ R.locals) (hg : gSt m ls nL R cells slots 0 0 rest) (hst : st0 = ([.ref (ad b1)] : List Value).reverse ++ .ref (ad i) :: rest) (d : decode cc pc = .ok (.invokevirtual index, 3)) (hf : cI (vX4_throwsNow μ i b1) kt = some r)
    (kk : ∀ (x : Int32) (μ1 : gM) (H1 : Heap) (locs1 : List Loc), kt x μ1 = some r → gWd Γ A nz ad μ1 s.heap H1 locs1 → W p l e R s m args below meth c H1 locs1 cells slots Q (F0 m (pc + 3) ls (.int x :: rest))) : W p l e R s m args below meth c H locs cells slots Q (F0 m pc ls st0) := by
  obtain ⟨x, μ1, ho, hf⟩ := cI_some hf
  obtain ⟨ci, fs, he, ho⟩ := gkc_some ho
  by_cases hc4 : ci = 4
  · subst hc4
    rw [if_pos rfl] at ho
    exact r_back0 X h (g_runU (As := [.ref (ad b1)]) X h he (wX4_throwsNow l Γ ad μ i b1 _ ho _) (T := TX4) rfl (va_cwU (owner := "SandPiano$Bass") (x := ⟨"SandPiano$Bass", "throwsNow", "(LSandPiano$Sands;)I"⟩) 1 X.hts (lw_U hl q644 q643 q642 q96 q646) rfl rfl rfl rfl (by decide +kernel) ⟨Nat.le_trans (Nat.le_of_ble_eq_true rfl) hF, Nat.le_trans (Nat.le_of_ble_eq_true rfl) hL⟩) rfl hg hst d) (fun H1 locs1 h1 => kk x μ1 H1 locs1 hf h1)
  rw [if_neg hc4] at ho
  by_cases hc7 : ci = 7
  · subst hc7
    rw [if_pos rfl] at ho
    exact r_back0 X h (g_runU (As := [.ref (ad b1)]) X h he (wX4_throwsNow l Γ ad μ i b1 _ ho _) (T := TX7) rfl (va_cwU (owner := "SandPiano$Bass") (x := ⟨"SandPiano$Bass", "throwsNow", "(LSandPiano$Sands;)I"⟩) 1 X.hts (lw_U hl q644 q645 q642 q96 q646) rfl rfl rfl rfl (by decide +kernel) ⟨Nat.le_trans (Nat.le_of_ble_eq_true rfl) hF, Nat.le_trans (Nat.le_of_ble_eq_true rfl) hL⟩) rfl hg hst d) (fun H1 locs1 h1 => kk x μ1 H1 locs1 hf h1)
  rw [if_neg hc7] at ho
  cases ho
def vX5_above (μ : gM) (i : Nat) (b1 : Nat) : gR := gkc μ i fun c => if c = 5 then fX5_above μ i b1 else if c = 8 then fX5_above μ i b1 else none
set_option maxHeartbeats 4000000 in
theorem wvX5_above {p : Program} {l : Launch} {e : Env} {R : Room} {s : State} {m : MethodId} {args : Array Value} {below : List Frame} {meth : Method} {c : Code} {H : Heap} {locs : List Loc} {cells slots : Nat} {Q : State → Prop} {cc : ByteArray} {pc nL : Nat} {ls : Array Slot} {rest st0 : List Value} {own : String} {Γ : gG} {A : Nat → Prop} {nz : Nat} {ad : Nat → Nat} {μ : gM} {r : Option Value × gM} {i index : Nat} {b1 : Nat} {kt : Int32 → gM → gR} (X : gX p m c cc nL s args own Γ A) (h : gWd Γ A nz ad μ s.heap H locs) (hl : Cond.methodLink own index ⟨"SandPiano$Shell", "above", "(LSandPiano$Sands;)I"⟩ ∈ lw_all) (hF : 2 ≤ R.frames) (hL : 42 ≤ R.locals) (hg : gSt m ls nL R cells slots 0 0 rest) (hst : st0 = ([.ref (ad b1)] : List Value).reverse ++ .ref (ad i) :: rest) (d : decode cc pc = .ok (.invokevirtual index, 3)) (hf : cI (vX5_above μ i b1) kt = some r)
    (kk : ∀ (x : Int32) (μ1 : gM) (H1 : Heap) (locs1 : List Loc), kt x μ1 = some r → gWd Γ A nz ad μ1 s.heap H1 locs1 → W p l e R s m args below meth c H1 locs1 cells slots Q (F0 m (pc + 3) ls (.int x :: rest))) : W p l e R s m args below meth c H locs cells slots Q (F0 m pc ls st0) := by
  obtain ⟨x, μ1, ho, hf⟩ := cI_some hf
  obtain ⟨ci, fs, he, ho⟩ := gkc_some ho
  by_cases hc5 : ci = 5
  · subst hc5
    rw [if_pos rfl] at ho
    exact r_back0 X h (g_runU (As := [.ref (ad b1)]) X h he (wX5_above l Γ ad μ i b1 _ ho _) (T := TX5) rfl (va_cwU (owner := "SandPiano$Shell") (x := ⟨"SandPiano$Shell", "above", "(LSandPiano$Sands;)I"⟩) 1 X.hts (lw_U hl q660 q659 q658 q97 q662) rfl rfl rfl rfl (by decide +kernel) ⟨Nat.le_trans (Nat.le_of_ble_eq_true rfl) hF, Nat.le_trans (Nat.le_of_ble_eq_true rfl) hL⟩) rfl hg hst d) (fun H1 locs1 h1 => kk x μ1 H1 locs1 hf h1)
  rw [if_neg hc5] at ho
  by_cases hc8 : ci = 8
  · subst hc8
    rw [if_pos rfl] at ho
    exact r_back0 X h (g_runU (As := [.ref (ad b1)]) X h he (wX5_above l Γ ad μ i b1 _ ho _) (T := TX8) rfl (va_cwU (owner := "SandPiano$Shell") (x := ⟨"SandPiano$Shell", "above", "(LSandPiano$Sands;)I"⟩) 1 X.hts (lw_U hl q660 q661 q658 q97 q662) rfl rfl rfl rfl (by decide +kernel) ⟨Nat.le_trans (Nat.le_of_ble_eq_true rfl) hF, Nat.le_trans (Nat.le_of_ble_eq_true rfl) hL⟩) rfl hg hst d) (fun H1 locs1 h1 => kk x μ1 H1 locs1 hf h1)
  rw [if_neg hc8] at ho
  cases ho
def vX6_carries (μ : gM) (i : Nat) (b1 : Nat) : gR := gkc μ i fun c => if c = 6 then fX6_carries μ i b1 else none
set_option maxHeartbeats 4000000 in
theorem wvX6_carries {p : Program} {l : Launch} {e : Env} {R : Room} {s : State} {m : MethodId} {args : Array Value} {below : List Frame} {meth : Method} {c : Code} {H : Heap} {locs : List Loc} {cells slots : Nat} {Q : State → Prop} {cc : ByteArray} {pc nL : Nat} {ls : Array Slot} {rest st0 : List Value} {own : String} {Γ : gG} {A : Nat → Prop} {nz : Nat} {ad : Nat → Nat} {μ : gM} {r : Option Value × gM} {i index : Nat} {b1 : Nat} {kt : Int32 → gM → gR} (X : gX p m c cc nL s args own Γ A) (h : gWd Γ A nz ad μ s.heap H locs) (hl : Cond.methodLink own index ⟨"SandPiano$Crab", "carries", "(LSandPiano$Sands;)I"⟩ ∈ lw_all) (hF : 2 ≤ R.frames) (hL : 41 ≤ R.locals) (hg : gSt m ls nL R cells slots 0 0 rest) (hst : st0 = ([.ref (ad b1)] : List Value).reverse ++ .ref (ad i) :: rest) (d : decode cc pc = .ok (.invokevirtual index, 3)) (hf : cI (vX6_carries μ i b1) kt = some r)
    (kk : ∀ (x : Int32) (μ1 : gM) (H1 : Heap) (locs1 : List Loc), kt x μ1 = some r → gWd Γ A nz ad μ1 s.heap H1 locs1 → W p l e R s m args below meth c H1 locs1 cells slots Q (F0 m (pc + 3) ls (.int x :: rest))) : W p l e R s m args below meth c H locs cells slots Q (F0 m pc ls st0) := by
  obtain ⟨x, μ1, ho, hf⟩ := cI_some hf
  obtain ⟨ci, fs, he, ho⟩ := gkc_some ho
  by_cases hc6 : ci = 6
  · subst hc6
    rw [if_pos rfl] at ho
    exact r_back0 X h (g_runV (As := [.ref (ad b1)]) X h he (wX6_carries l Γ ad μ i b1 _ ho _) (T := TX6) rfl (x_cwC 1 X.hts hl q676 q677 q98 q678 rfl rfl (by decide +kernel) ⟨Nat.le_trans (Nat.le_of_ble_eq_true rfl) hF, Nat.le_trans (Nat.le_of_ble_eq_true rfl) hL⟩) rfl hg hst d) (fun H1 locs1 h1 => kk x μ1 H1 locs1 hf h1)
  rw [if_neg hc6] at ho
  cases ho
def vX7_before (μ : gM) (i : Nat) : gR := gkc μ i fun c => if c = 7 then fX7_before μ i else none
set_option maxHeartbeats 4000000 in
theorem wvX7_before {p : Program} {l : Launch} {e : Env} {R : Room} {s : State} {m : MethodId} {args : Array Value} {below : List Frame} {meth : Method} {c : Code} {H : Heap} {locs : List Loc} {cells slots : Nat} {Q : State → Prop} {cc : ByteArray} {pc nL : Nat} {ls : Array Slot} {rest st0 : List Value} {own : String} {Γ : gG} {A : Nat → Prop} {nz : Nat} {ad : Nat → Nat} {μ : gM} {r : Option Value × gM} {i index : Nat} {kt : Int32 → gM → gR} (X : gX p m c cc nL s args own Γ A) (h : gWd Γ A nz ad μ s.heap H locs) (hl : Cond.methodLink own index ⟨"SandPiano$Drum", "before", "()I"⟩ ∈ lw_all) (hF : 2 ≤ R.frames) (hL : 40 ≤ R.locals) (hg : gSt m ls nL R cells slots 0 0 rest) (hst : st0 = ([] : List Value).reverse ++ .ref (ad i) :: rest) (d : decode cc pc = .ok (.invokevirtual index, 3)) (hf : cI (vX7_before μ i) kt = some r)
    (kk : ∀ (x : Int32) (μ1 : gM) (H1 : Heap) (locs1 : List Loc), kt x μ1 = some r → gWd Γ A nz ad μ1 s.heap H1 locs1 → W p l e R s m args below meth c H1 locs1 cells slots Q (F0 m (pc + 3) ls (.int x :: rest))) : W p l e R s m args below meth c H locs cells slots Q (F0 m pc ls st0) := by
  obtain ⟨x, μ1, ho, hf⟩ := cI_some hf
  obtain ⟨ci, fs, he, ho⟩ := gkc_some ho
  by_cases hc7 : ci = 7
  · subst hc7
    rw [if_pos rfl] at ho
    exact r_back0 X h (g_runV (As := []) X h he (wX7_before l Γ ad μ i _ ho _) (T := TX7) rfl (x_cwC 0 X.hts hl q686 q687 q99 q688 rfl rfl (by decide +kernel) ⟨Nat.le_trans (Nat.le_of_ble_eq_true rfl) hF, Nat.le_trans (Nat.le_of_ble_eq_true rfl) hL⟩) rfl hg hst d) (fun H1 locs1 h1 => kk x μ1 H1 locs1 hf h1)
  rw [if_neg hc7] at ho
  cases ho
def vX8_silent (μ : gM) (i : Nat) (b1 : Nat) : gR := gkc μ i fun c => if c = 8 then fX8_silent μ i b1 else none
set_option maxHeartbeats 4000000 in
theorem wvX8_silent {p : Program} {l : Launch} {e : Env} {R : Room} {s : State} {m : MethodId} {args : Array Value} {below : List Frame} {meth : Method} {c : Code} {H : Heap} {locs : List Loc} {cells slots : Nat} {Q : State → Prop} {cc : ByteArray} {pc nL : Nat} {ls : Array Slot} {rest st0 : List Value} {own : String} {Γ : gG} {A : Nat → Prop} {nz : Nat} {ad : Nat → Nat} {μ : gM} {r : Option Value × gM} {i index : Nat} {b1 : Nat} {kt : Int32 → gM → gR} (X : gX p m c cc nL s args own Γ A) (h : gWd Γ A nz ad μ s.heap H locs) (hl : Cond.methodLink own index ⟨"SandPiano$Ring", "silent", "(LSandPiano;)I"⟩ ∈ lw_all) (hF : 6 ≤ R.frames) (hL : 125 ≤ R.locals) (hg : gSt m ls nL R cells slots 0 0 rest) (hst : st0 = ([.ref (ad b1)] : List Value).reverse ++ .ref (ad i) :: rest) (d : decode cc pc = .ok (.invokevirtual index, 3)) (hf : cI (vX8_silent μ i b1) kt = some r)
    (kk : ∀ (x : Int32) (μ1 : gM) (H1 : Heap) (locs1 : List Loc), kt x μ1 = some r → gWd Γ A nz ad μ1 s.heap H1 locs1 → W p l e R s m args below meth c H1 locs1 cells slots Q (F0 m (pc + 3) ls (.int x :: rest))) : W p l e R s m args below meth c H locs cells slots Q (F0 m pc ls st0) := by
  obtain ⟨x, μ1, ho, hf⟩ := cI_some hf
  obtain ⟨ci, fs, he, ho⟩ := gkc_some ho
  by_cases hc8 : ci = 8
  · subst hc8
    rw [if_pos rfl] at ho
    exact r_back0 X h (g_runV (As := [.ref (ad b1)]) X h he (wX8_silent l Γ ad μ i b1 _ ho _) (T := TX8) rfl (x_cwC 1 X.hts hl q693 q694 q100 q695 rfl rfl (by decide +kernel) ⟨Nat.le_trans (Nat.le_of_ble_eq_true rfl) hF, Nat.le_trans (Nat.le_of_ble_eq_true rfl) hL⟩) rfl hg hst d) (fun H1 locs1 h1 => kk x μ1 H1 locs1 hf h1)
  rw [if_neg hc8] at ho
  cases ho
def fX0_mark (μ0 : gM) (b0 : Nat) (a1 : Int32) (a2 : Int32) : gR := gis μ0 b0 0 <| cI (fX0_isKey μ0 b0 a1) fun x1 μ2 => if x1 = 0 then (some (some (.int (-1)), μ2)) else (cI (fX0_isIn μ2 a2 1 5) fun x3 μ4 => if x3 = 0 then (some (some (.int (-1)), μ4)) else (gP (gfld μ4 b0 0 9) fun i5 => gaQ μ4 5 i5 a1 fun o6 => gnn o6 fun i7 => if a2 = 1 then (tcast μ4 i7 4 (gis μ4 b0 0 <| cI (fX0_found μ4 b0 3) fun x8 μ9 => some (some (.int x8), μ9)) <| gP (gfld μ4 b0 0 10) fun i10 => cI (vX4_throwsNow μ4 i7 i10) fun x11 μ12 => some (some (.int x11), μ12)) else if a2 = 2 then (tcast μ4 i7 5 (gis μ4 b0 0 <| cI (fX0_found μ4 b0 3) fun x13 μ14 => some (some (.int x13), μ14)) <| gP (gfld μ4 b0 0 10) fun i15 => cI (vX5_above μ4 i7 i15) fun x16 μ17 => some (some (.int x16), μ17)) else if a2 = 3 then (tcast μ4 i7 6 (gis μ4 b0 0 <| cI (fX0_found μ4 b0 3) fun x18 μ19 => some (some (.int x18), μ19)) <| gP (gfld μ4 b0 0 10) fun i20 => cI (vX6_carries μ4 i7 i20) fun x21 μ22 => some (some (.int x21), μ22)) else if a2 = 4 then (tcast μ4 i7 7 (gis μ4 b0 0 <| cI (fX0_found μ4 b0 3) fun x23 μ24 => some (some (.int x23), μ24)) <| cI (vX7_before μ4 i7) fun x25 μ26 => some (some (.int x25), μ26)) else (tcast μ4 i7 8 (gis μ4 b0 0 <| cI (fX0_found μ4 b0 3) fun x27 μ28 => some (some (.int x27), μ28)) <| cI (vX8_silent μ4 i7 b0) fun x29 μ30 => some (some (.int x29), μ30))))
set_option maxHeartbeats 4000000 in
theorem wX0_mark (l : Launch) (Γ : gG) (hst : l.stackTraces = false) (ad : Nat → Nat) (μ0 : gM) (b0 : Nat) (a1 : Int32) (a2 : Int32) (r : Option Value × gM) (hf : fX0_mark μ0 b0 a1 a2 = some r) : gMtE0 l Γ yX0_mark (wsW_ yX0_mark cX0_mark 5 (some .int) [(26, 67, 109, 239), (68, 79, 109, 239), (80, 91, 109, 239), (92, 99, 109, 239), (100, 108, 109, 239)]) ({ frames := 9, cells := 3, slots := 1010, locals := 10248 } : Room) 3 1010 ad μ0 [.ref (ad b0), .int a1, .int a2] r := by
  intro sz
  refine g_startW hst (maxL := 5) (ret := (some .int)) (by decide) rfl g_allW (Nat.le_of_ble_eq_true rfl) ?_
  intro p e s m below meth c ls hr hlk hnm X Y h hl
  generalize gA ad μ0 sz = A at X Y h ⊢
  generalize ([.ref (ad b0), .int a1, .int a2] : List Value).toArray = args at X ⊢
  have X : gX p m c cX0_mark 5 s args "SandPiano" Γ A := X
  have hl : lv_has ls 5 [(0, .ref (ad b0)), (1, .int a1), (2, .int a2)] := hl
  show W p l e ({ frames := 9, cells := 3, slots := 1010, locals := 10248 } : Room) s m args below meth c s.heap [] 0 0 (MQ below (gQ0 Γ ad μ0.1 r A) args s 3 1010 A) (F0 m 0 ls [])
  unfold fX0_mark at hf
  refine lv_aload_n X.hx X.hb dX0_mark_0 rfl (lv_at hl 0 rfl) ?_
  refine lv_iload_n X.hx X.hb dX0_mark_1 rfl (lv_at hl 1 rfl) ?_
  refine r_cVI (As := [.int a1]) (rest := []) (C := RX0) (T := TX0) (N := 36) X h hf (fun res hres => wX0_isKey l Γ ad _ b0 a1 res hres) rfl (cwV 1 X.hts (lw_V q549 q551 qs9 q82 q552) rfl rfl rfl (by decide +kernel) ⟨Nat.le_of_ble_eq_true rfl, Nat.le_of_ble_eq_true rfl⟩) rfl ⟨hl.1, Nat.le_of_ble_eq_true rfl, Nat.le_of_ble_eq_true rfl, Nat.le_of_ble_eq_true rfl⟩ rfl dX0_mark_2 (fun x1 μ2 H locs hf h => ?_)
  refine lv_if_eq (tgt := 17) X.hx X.hb dX0_mark_5 (by decide) (fun hc => ?_) (fun hc => ?_)
  · replace hf := gif_t hf hc
    clear hc
    refine lv_iconst (v := (-1)) X.hx X.hb dX0_mark_17 (by decide) ?_
    exact r_ri X h hr hlk (Nat.le_of_ble_eq_true rfl) (Nat.le_of_ble_eq_true rfl) dX0_mark_18 hf
  · replace hf := gif_f hf hc
    clear hc
    refine lv_iload_n X.hx X.hb dX0_mark_8 rfl (lv_at hl 2 rfl) ?_
    refine lv_iconst (v := 1) X.hx X.hb dX0_mark_9 (by decide) ?_
    refine lv_iconst (v := 5) X.hx X.hb dX0_mark_10 (by decide) ?_
    refine r_cSI (As := [.int a2, .int 1, .int 5]) (rest := []) X h hf (fun res hres => wX0_isIn l Γ ad _ a2 1 5 res hres) (va_cwS 3 X.hts (lw_S q344 q345 q82 q346) rfl rfl rfl (by decide +kernel) ⟨Nat.le_of_ble_eq_true rfl, Nat.le_of_ble_eq_true rfl⟩) rfl ⟨hl.1, Nat.le_of_ble_eq_true rfl, Nat.le_of_ble_eq_true rfl, Nat.le_of_ble_eq_true rfl⟩ rfl dX0_mark_11 (fun x3 μ4 H locs hf h => ?_)
    refine lv_if_ne (tgt := 19) X.hx X.hb dX0_mark_14 (by decide) (fun hc => ?_) (fun hc => ?_)
    · replace hf := gif_f hf hc
      clear hc
      refine lv_aload_n X.hx X.hb dX0_mark_19 rfl (lv_at hl 0 rfl) ?_
      refine r_getP X h (ci := 0) (k := 9) (C := RX0) (T := TX0) (N := 36) rfl in_X0 (by decide) q151 rfl dX0_mark_20 hf (fun i5 hf => ?_)
      refine lv_iload_n X.hx X.hb dX0_mark_23 rfl (lv_at hl 1 rfl) ?_
      refine r_aald X h (t := 5) rfl rfl dX0_mark_24 hf (fun o6 hf => ?_)
      refine r_nn hf (fun i7 hf => ?_)
      refine lv_astore_n (lv' := [(3, .ref (ad i7)), (0, .ref (ad b0)), (1, .int a1), (2, .int a2)]) X.hx X.hb dX0_mark_25 rfl hl (by decide) rfl (fun ls hl => ?_)
      refine lv_iload_n X.hx X.hb dX0_mark_26 rfl (lv_at hl 3 rfl) ?_
      by_cases hc0 : a2 = 1
      · replace hf := gif_t hf hc0
        refine lv_tableIn (tgt := 56) X.hx X.hb dX0_mark_27 (by rw [hc0]; decide) (by rw [hc0]; decide) (by rw [hc0]; rfl) (by decide) ?_
        clear hc0
        refine lv_aload_n X.hx X.hb dX0_mark_56 rfl (lv_at hl 0 rfl) ?_
        refine r_tcast (D := 4) (rest := []) X Y h (by decide) ⟨hl.1, Nat.le_of_ble_eq_true rfl, Nat.le_of_ble_eq_true rfl, Nat.le_of_ble_eq_true rfl⟩ ⟨Nat.le_of_ble_eq_true rfl, Nat.le_of_ble_eq_true rfl⟩ ⟨0, 26, 67, 239, "java/lang/ClassCastException", rfl, by decide, by decide, by decide, q627, List.contains_iff_mem.mp (by decide +kernel), x_pre0⟩ q480 dX0_mark_57 hf (fun hf v H locs h => ?_) (fun kq fsq hq1 hq2 hf => ?_)
        · refine lv_astore (lv' := [(4, .ref v), (3, .ref (ad i7)), (0, .ref (ad b0)), (1, .int a1), (2, .int a2)]) X.hx X.hb dX0_mark_109 hl (by decide) rfl (fun ls hl => ?_)
          replace hl := lv_sub hl [1, 2, 3, 4] rfl
          have hl : lv_has ls 5 [(3, .ref (ad i7)), (0, .ref (ad b0)), (1, .int a1), (2, .int a2)] := hl
          refine lv_aload_n X.hx X.hb dX0_mark_111 rfl (lv_at hl 1 rfl) ?_
          refine lv_iconst (v := 3) X.hx X.hb dX0_mark_112 (by decide) ?_
          refine r_cVI (As := [.int 3]) (rest := []) (C := RX0) (T := TX0) (N := 36) X h hf (fun res hres => wX0_found l Γ ad _ b0 3 res hres) rfl (cwV 1 X.hts (lw_V q347 q349 qs2 q82 q350) rfl rfl rfl (by decide +kernel) ⟨Nat.le_of_ble_eq_true rfl, Nat.le_of_ble_eq_true rfl⟩) rfl ⟨hl.1, Nat.le_of_ble_eq_true rfl, Nat.le_of_ble_eq_true rfl, Nat.le_of_ble_eq_true rfl⟩ rfl dX0_mark_113 (fun x8 μ9 H locs hf h => ?_)
          exact r_ri X h hr hlk (Nat.le_of_ble_eq_true rfl) (Nat.le_of_ble_eq_true rfl) dX0_mark_116 hf
        clear hq1 hq2
        refine lv_aload_n X.hx X.hb dX0_mark_60 rfl (lv_at hl 1 rfl) ?_
        refine r_getP X h (ci := 0) (k := 10) (C := RX0) (T := TX0) (N := 36) rfl in_X0 (by decide) q152 rfl dX0_mark_61 hf (fun i10 hf => ?_)
        refine wvX4_throwsNow X h q641 (Nat.le_of_ble_eq_true rfl) (Nat.le_of_ble_eq_true rfl) (rest := []) ⟨hl.1, Nat.le_of_ble_eq_true rfl, Nat.le_of_ble_eq_true rfl, Nat.le_of_ble_eq_true rfl⟩ rfl dX0_mark_64 hf (fun x11 μ12 H locs hf h => ?_)
        exact r_ri X h hr hlk (Nat.le_of_ble_eq_true rfl) (Nat.le_of_ble_eq_true rfl) dX0_mark_67 hf
      replace hf := gif_f hf hc0
      by_cases hc1 : a2 = 2
      · replace hf := gif_t hf hc1
        refine lv_tableIn (tgt := 68) X.hx X.hb dX0_mark_27 (by rw [hc1]; decide) (by rw [hc1]; decide) (by rw [hc1]; rfl) (by decide) ?_
        clear hc1
        refine lv_aload_n X.hx X.hb dX0_mark_68 rfl (lv_at hl 0 rfl) ?_
        refine r_tcast (D := 5) (rest := []) X Y h (by decide) ⟨hl.1, Nat.le_of_ble_eq_true rfl, Nat.le_of_ble_eq_true rfl, Nat.le_of_ble_eq_true rfl⟩ ⟨Nat.le_of_ble_eq_true rfl, Nat.le_of_ble_eq_true rfl⟩ ⟨1, 68, 79, 239, "java/lang/ClassCastException", rfl, by decide, by decide, by decide, q627, List.contains_iff_mem.mp (by decide +kernel), (x_preO (by decide) x_pre0)⟩ q499 dX0_mark_69 hf (fun hf v H locs h => ?_) (fun kq fsq hq1 hq2 hf => ?_)
        · refine lv_astore (lv' := [(4, .ref v), (3, .ref (ad i7)), (0, .ref (ad b0)), (1, .int a1), (2, .int a2)]) X.hx X.hb dX0_mark_109 hl (by decide) rfl (fun ls hl => ?_)
          replace hl := lv_sub hl [1, 2, 3, 4] rfl
          have hl : lv_has ls 5 [(3, .ref (ad i7)), (0, .ref (ad b0)), (1, .int a1), (2, .int a2)] := hl
          refine lv_aload_n X.hx X.hb dX0_mark_111 rfl (lv_at hl 1 rfl) ?_
          refine lv_iconst (v := 3) X.hx X.hb dX0_mark_112 (by decide) ?_
          refine r_cVI (As := [.int 3]) (rest := []) (C := RX0) (T := TX0) (N := 36) X h hf (fun res hres => wX0_found l Γ ad _ b0 3 res hres) rfl (cwV 1 X.hts (lw_V q347 q349 qs2 q82 q350) rfl rfl rfl (by decide +kernel) ⟨Nat.le_of_ble_eq_true rfl, Nat.le_of_ble_eq_true rfl⟩) rfl ⟨hl.1, Nat.le_of_ble_eq_true rfl, Nat.le_of_ble_eq_true rfl, Nat.le_of_ble_eq_true rfl⟩ rfl dX0_mark_113 (fun x13 μ14 H locs hf h => ?_)
          exact r_ri X h hr hlk (Nat.le_of_ble_eq_true rfl) (Nat.le_of_ble_eq_true rfl) dX0_mark_116 hf
        clear hq1 hq2
        refine lv_aload_n X.hx X.hb dX0_mark_72 rfl (lv_at hl 1 rfl) ?_
        refine r_getP X h (ci := 0) (k := 10) (C := RX0) (T := TX0) (N := 36) rfl in_X0 (by decide) q152 rfl dX0_mark_73 hf (fun i15 hf => ?_)
        refine wvX5_above X h q657 (Nat.le_of_ble_eq_true rfl) (Nat.le_of_ble_eq_true rfl) (rest := []) ⟨hl.1, Nat.le_of_ble_eq_true rfl, Nat.le_of_ble_eq_true rfl, Nat.le_of_ble_eq_true rfl⟩ rfl dX0_mark_76 hf (fun x16 μ17 H locs hf h => ?_)
        exact r_ri X h hr hlk (Nat.le_of_ble_eq_true rfl) (Nat.le_of_ble_eq_true rfl) dX0_mark_79 hf
      replace hf := gif_f hf hc1
      by_cases hc2 : a2 = 3
      · replace hf := gif_t hf hc2
        refine lv_tableIn (tgt := 80) X.hx X.hb dX0_mark_27 (by rw [hc2]; decide) (by rw [hc2]; decide) (by rw [hc2]; rfl) (by decide) ?_
        clear hc2
        refine lv_aload_n X.hx X.hb dX0_mark_80 rfl (lv_at hl 0 rfl) ?_
        refine r_tcast (D := 6) (rest := []) X Y h (by decide) ⟨hl.1, Nat.le_of_ble_eq_true rfl, Nat.le_of_ble_eq_true rfl, Nat.le_of_ble_eq_true rfl⟩ ⟨Nat.le_of_ble_eq_true rfl, Nat.le_of_ble_eq_true rfl⟩ ⟨2, 80, 91, 239, "java/lang/ClassCastException", rfl, by decide, by decide, by decide, q627, List.contains_iff_mem.mp (by decide +kernel), (x_preO (by decide) (x_preO (by decide) x_pre0))⟩ q509 dX0_mark_81 hf (fun hf v H locs h => ?_) (fun kq fsq hq1 hq2 hf => ?_)
        · refine lv_astore (lv' := [(4, .ref v), (3, .ref (ad i7)), (0, .ref (ad b0)), (1, .int a1), (2, .int a2)]) X.hx X.hb dX0_mark_109 hl (by decide) rfl (fun ls hl => ?_)
          replace hl := lv_sub hl [1, 2, 3, 4] rfl
          have hl : lv_has ls 5 [(3, .ref (ad i7)), (0, .ref (ad b0)), (1, .int a1), (2, .int a2)] := hl
          refine lv_aload_n X.hx X.hb dX0_mark_111 rfl (lv_at hl 1 rfl) ?_
          refine lv_iconst (v := 3) X.hx X.hb dX0_mark_112 (by decide) ?_
          refine r_cVI (As := [.int 3]) (rest := []) (C := RX0) (T := TX0) (N := 36) X h hf (fun res hres => wX0_found l Γ ad _ b0 3 res hres) rfl (cwV 1 X.hts (lw_V q347 q349 qs2 q82 q350) rfl rfl rfl (by decide +kernel) ⟨Nat.le_of_ble_eq_true rfl, Nat.le_of_ble_eq_true rfl⟩) rfl ⟨hl.1, Nat.le_of_ble_eq_true rfl, Nat.le_of_ble_eq_true rfl, Nat.le_of_ble_eq_true rfl⟩ rfl dX0_mark_113 (fun x18 μ19 H locs hf h => ?_)
          exact r_ri X h hr hlk (Nat.le_of_ble_eq_true rfl) (Nat.le_of_ble_eq_true rfl) dX0_mark_116 hf
        clear hq1 hq2
        refine lv_aload_n X.hx X.hb dX0_mark_84 rfl (lv_at hl 1 rfl) ?_
        refine r_getP X h (ci := 0) (k := 10) (C := RX0) (T := TX0) (N := 36) rfl in_X0 (by decide) q152 rfl dX0_mark_85 hf (fun i20 hf => ?_)
        refine wvX6_carries X h q675 (Nat.le_of_ble_eq_true rfl) (Nat.le_of_ble_eq_true rfl) (rest := []) ⟨hl.1, Nat.le_of_ble_eq_true rfl, Nat.le_of_ble_eq_true rfl, Nat.le_of_ble_eq_true rfl⟩ rfl dX0_mark_88 hf (fun x21 μ22 H locs hf h => ?_)
        exact r_ri X h hr hlk (Nat.le_of_ble_eq_true rfl) (Nat.le_of_ble_eq_true rfl) dX0_mark_91 hf
      replace hf := gif_f hf hc2
      by_cases hc3 : a2 = 4
      · replace hf := gif_t hf hc3
        refine lv_tableIn (tgt := 92) X.hx X.hb dX0_mark_27 (by rw [hc3]; decide) (by rw [hc3]; decide) (by rw [hc3]; rfl) (by decide) ?_
        clear hc3
        refine lv_aload_n X.hx X.hb dX0_mark_92 rfl (lv_at hl 0 rfl) ?_
        refine r_tcast (D := 7) (rest := []) X Y h (by decide) ⟨hl.1, Nat.le_of_ble_eq_true rfl, Nat.le_of_ble_eq_true rfl, Nat.le_of_ble_eq_true rfl⟩ ⟨Nat.le_of_ble_eq_true rfl, Nat.le_of_ble_eq_true rfl⟩ ⟨3, 92, 99, 239, "java/lang/ClassCastException", rfl, by decide, by decide, by decide, q627, List.contains_iff_mem.mp (by decide +kernel), (x_preO (by decide) (x_preO (by decide) (x_preO (by decide) x_pre0)))⟩ q519 dX0_mark_93 hf (fun hf v H locs h => ?_) (fun kq fsq hq1 hq2 hf => ?_)
        · refine lv_astore (lv' := [(4, .ref v), (3, .ref (ad i7)), (0, .ref (ad b0)), (1, .int a1), (2, .int a2)]) X.hx X.hb dX0_mark_109 hl (by decide) rfl (fun ls hl => ?_)
          replace hl := lv_sub hl [1, 2, 3, 4] rfl
          have hl : lv_has ls 5 [(3, .ref (ad i7)), (0, .ref (ad b0)), (1, .int a1), (2, .int a2)] := hl
          refine lv_aload_n X.hx X.hb dX0_mark_111 rfl (lv_at hl 1 rfl) ?_
          refine lv_iconst (v := 3) X.hx X.hb dX0_mark_112 (by decide) ?_
          refine r_cVI (As := [.int 3]) (rest := []) (C := RX0) (T := TX0) (N := 36) X h hf (fun res hres => wX0_found l Γ ad _ b0 3 res hres) rfl (cwV 1 X.hts (lw_V q347 q349 qs2 q82 q350) rfl rfl rfl (by decide +kernel) ⟨Nat.le_of_ble_eq_true rfl, Nat.le_of_ble_eq_true rfl⟩) rfl ⟨hl.1, Nat.le_of_ble_eq_true rfl, Nat.le_of_ble_eq_true rfl, Nat.le_of_ble_eq_true rfl⟩ rfl dX0_mark_113 (fun x23 μ24 H locs hf h => ?_)
          exact r_ri X h hr hlk (Nat.le_of_ble_eq_true rfl) (Nat.le_of_ble_eq_true rfl) dX0_mark_116 hf
        clear hq1 hq2
        refine wvX7_before X h q685 (Nat.le_of_ble_eq_true rfl) (Nat.le_of_ble_eq_true rfl) (rest := []) ⟨hl.1, Nat.le_of_ble_eq_true rfl, Nat.le_of_ble_eq_true rfl, Nat.le_of_ble_eq_true rfl⟩ rfl dX0_mark_96 hf (fun x25 μ26 H locs hf h => ?_)
        exact r_ri X h hr hlk (Nat.le_of_ble_eq_true rfl) (Nat.le_of_ble_eq_true rfl) dX0_mark_99 hf
      replace hf := gif_f hf hc3
      have hn0 : (a2 : Int32).toInt ≠ 1 := fun h9 => hc0 (Int32.toInt_inj.mp (h9.trans (by decide)))
      have hn1 : (a2 : Int32).toInt ≠ 2 := fun h9 => hc1 (Int32.toInt_inj.mp (h9.trans (by decide)))
      have hn2 : (a2 : Int32).toInt ≠ 3 := fun h9 => hc2 (Int32.toInt_inj.mp (h9.trans (by decide)))
      have hn3 : (a2 : Int32).toInt ≠ 4 := fun h9 => hc3 (Int32.toInt_inj.mp (h9.trans (by decide)))
      refine lv_tableOut (tgt := 100) X.hx X.hb dX0_mark_27 (by omega) (by decide) ?_
      clear hn0 hn1 hn2 hn3 hc0 hc1 hc2 hc3
      refine lv_aload_n X.hx X.hb dX0_mark_100 rfl (lv_at hl 0 rfl) ?_
      refine r_tcast (D := 8) (rest := []) X Y h (by decide) ⟨hl.1, Nat.le_of_ble_eq_true rfl, Nat.le_of_ble_eq_true rfl, Nat.le_of_ble_eq_true rfl⟩ ⟨Nat.le_of_ble_eq_true rfl, Nat.le_of_ble_eq_true rfl⟩ ⟨4, 100, 108, 239, "java/lang/ClassCastException", rfl, by decide, by decide, by decide, q627, List.contains_iff_mem.mp (by decide +kernel), (x_preO (by decide) (x_preO (by decide) (x_preO (by decide) (x_preO (by decide) x_pre0))))⟩ q529 dX0_mark_101 hf (fun hf v H locs h => ?_) (fun kq fsq hq1 hq2 hf => ?_)
      · refine lv_astore (lv' := [(4, .ref v), (3, .ref (ad i7)), (0, .ref (ad b0)), (1, .int a1), (2, .int a2)]) X.hx X.hb dX0_mark_109 hl (by decide) rfl (fun ls hl => ?_)
        replace hl := lv_sub hl [1, 2, 3, 4] rfl
        have hl : lv_has ls 5 [(3, .ref (ad i7)), (0, .ref (ad b0)), (1, .int a1), (2, .int a2)] := hl
        refine lv_aload_n X.hx X.hb dX0_mark_111 rfl (lv_at hl 1 rfl) ?_
        refine lv_iconst (v := 3) X.hx X.hb dX0_mark_112 (by decide) ?_
        refine r_cVI (As := [.int 3]) (rest := []) (C := RX0) (T := TX0) (N := 36) X h hf (fun res hres => wX0_found l Γ ad _ b0 3 res hres) rfl (cwV 1 X.hts (lw_V q347 q349 qs2 q82 q350) rfl rfl rfl (by decide +kernel) ⟨Nat.le_of_ble_eq_true rfl, Nat.le_of_ble_eq_true rfl⟩) rfl ⟨hl.1, Nat.le_of_ble_eq_true rfl, Nat.le_of_ble_eq_true rfl, Nat.le_of_ble_eq_true rfl⟩ rfl dX0_mark_113 (fun x27 μ28 H locs hf h => ?_)
        exact r_ri X h hr hlk (Nat.le_of_ble_eq_true rfl) (Nat.le_of_ble_eq_true rfl) dX0_mark_116 hf
      clear hq1 hq2
      refine lv_aload_n X.hx X.hb dX0_mark_104 rfl (lv_at hl 1 rfl) ?_
      refine wvX8_silent X h q692 (Nat.le_of_ble_eq_true rfl) (Nat.le_of_ble_eq_true rfl) (rest := []) ⟨hl.1, Nat.le_of_ble_eq_true rfl, Nat.le_of_ble_eq_true rfl, Nat.le_of_ble_eq_true rfl⟩ rfl dX0_mark_105 hf (fun x29 μ30 H locs hf h => ?_)
      exact r_ri X h hr hlk (Nat.le_of_ble_eq_true rfl) (Nat.le_of_ble_eq_true rfl) dX0_mark_108 hf
    · replace hf := gif_t hf hc
      clear hc
      refine lv_iconst (v := (-1)) X.hx X.hb dX0_mark_17 (by decide) ?_
      exact r_ri X h hr hlk (Nat.le_of_ble_eq_true rfl) (Nat.le_of_ble_eq_true rfl) dX0_mark_18 hf
/-! X0_mean -/
def fX0_mean_L27 (b0 : Nat) (a1 : Int32) (o4 : Option Nat) (x5 : Int32) (kx53 : Int64 → gM → gR) : Nat → Int64 → Int32 → gM → gR
  | 0, _, _, _ => none
  | n11 + 1, x8, x9, μ10 => if x5 ≤ x9 then (kx53 x8 μ10) else (gnn o4 fun i12 => gaI μ10 0 i12 x9 fun x13 => gnm ((x8 + ((x13 : Int32).toInt64))) fun x14 => gnm (x9 + 1) fun x15 => fX0_mean_L27 b0 a1 o4 x5 kx53 n11 x14 x15 μ10)
set_option maxHeartbeats 4000000 in
theorem wX0_mean_L27 {p : Program} {e : Env} {s : State} {m : MethodId} {args : Array Value} {below : List Frame} {meth : Method} {c : Code} {Γ : gG} {A : Nat → Prop} {nz : Nat} {ad : Nat → Nat} {r : Option Value × gM} (l : Launch) (b0 : Nat) (a1 : Int32) (o4 : Option Nat) (x5 : Int32) (kx53 : Int64 → gM → gR) (X : gX p m c cX0_mean 8 s args "SandPiano" Γ A) (hr : meth.sig.returnType = (some .int)) (hlk : meth.locks = false) (hk53 : ∀ (x16 : Int64) (μ : gM) (H : Heap) (locs : List Loc) (ls : Array Slot), kx53 x16 μ = some r → gWd Γ A nz ad μ s.heap H locs → lv_has ls 8 [(0, .ref (ad b0)), (1, .int a1), (2, .long x16)] → W p l e ({ frames := 9, cells := 3, slots := 19, locals := 10248 } : Room) s m args below meth c H locs 0 0 (MQ below (gQ0 Γ ad nz r A) args s 3 19 A) (F0 m 53 ls [])) : ∀ (n11 : Nat) (x8 : Int64) (x9 : Int32) (μ10 : gM) (H : Heap) (locs : List Loc) (ls : Array Slot), fX0_mean_L27 b0 a1 o4 x5 kx53 n11 x8 x9 μ10 = some r → gWd Γ A nz ad μ10 s.heap H locs → lv_has ls 8 [(0, .ref (ad b0)), (1, .int a1), (2, .long x8), (4, va_rf ((o4).map ad)), (5, .int x5), (6, .int x9)] → W p l e ({ frames := 9, cells := 3, slots := 19, locals := 10248 } : Room) s m args below meth c H locs 0 0 (MQ below (gQ0 Γ ad nz r A) args s 3 19 A) (F0 m 27 ls []) := by
  intro n11
  induction n11 with
  | zero =>
    intro x8 x9 μ10 H locs ls hf h hl
    have hf : (none : gR) = some r := hf
    cases hf
  | succ n11 ih =>
    intro x8 x9 μ10 H locs ls hf h hl
    rw [fX0_mean_L27] at hf
    refine lv_iload X.hx X.hb dX0_mean_27 (lv_at hl 5 rfl) ?_
    refine lv_iload X.hx X.hb dX0_mean_29 (lv_at hl 4 rfl) ?_
    refine lv_icmp_ge (tgt := 53) X.hx X.hb dX0_mean_31 (by decide) (fun hc => ?_) (fun hc => ?_)
    · replace hf := gif_t hf hc
      clear hc
      exact hk53 _ _ _ _ _ hf h (lv_sub hl [0, 1, 2] rfl)
    · replace hf := gif_f hf hc
      clear hc
      refine r_aloadQ X.hx X.hb dX0_mean_34 (lv_at hl 3 rfl) ?_
      refine r_nn hf (fun i12 hf => ?_)
      refine lv_iload X.hx X.hb dX0_mean_36 (lv_at hl 5 rfl) ?_
      refine r_iald X h dX0_mean_38 hf (fun x13 hf => ?_)
      refine lv_istore (lv' := [(7, .int x13), (0, .ref (ad b0)), (1, .int a1), (2, .long x8), (4, va_rf ((o4).map ad)), (5, .int x5), (6, .int x9)]) X.hx X.hb dX0_mean_39 hl (by decide) rfl (fun ls hl => ?_)
      refine lv_lload_n X.hx X.hb dX0_mean_41 rfl (lv_at hl 3 rfl) ?_
      refine lv_iload X.hx X.hb dX0_mean_42 (lv_at hl 0 rfl) ?_
      refine lv_i2l X.hx X.hb dX0_mean_44 rfl ?_
      refine lv_ladd X.hx X.hb dX0_mean_45 ?_
      refine r_nmJ hf (fun x14 hf => ?_)
      refine lv_lstore_n (lv' := [(2, .long x14), (7, .int x13), (0, .ref (ad b0)), (1, .int a1), (4, va_rf ((o4).map ad)), (5, .int x5), (6, .int x9)]) X.hx X.hb dX0_mean_46 rfl hl (by decide) rfl (fun ls hl => ?_)
      refine r_nmk hf (fun x15 ex hf => ?_)
      refine lv_iinc (v := x15) (lv' := [(6, .int x15), (2, .long x14), (7, .int x13), (0, .ref (ad b0)), (1, .int a1), (4, va_rf ((o4).map ad)), (5, .int x5)]) X.hx X.hb dX0_mean_47 hl (k := 6) rfl (by rw [ex]; rfl) (by decide) rfl (fun ls hl => ?_)
      clear ex
      refine lv_goto (tgt := 27) X.hx X.hb dX0_mean_50 (by decide) ?_
      exact ih _ _ _ _ _ _ hf h (lv_sub hl [3, 4, 1, 5, 6, 0] rfl)
def fX0_mean (μ0 : gM) (b0 : Nat) (a1 : Int32) : gR := cI (fX0_isRow μ0 a1) fun x1 μ2 => if x1 = 0 then (some (some (.int (-1)), μ2)) else (gP (gfld μ2 b0 0 5) fun i3 => gaQ μ2 3 i3 a1 fun o4 => tlen μ2 0 o4 (gis μ2 b0 0 <| cI (fX0_found μ2 b0 1) fun x6 μ7 => some (some (.int x6), μ7)) fun x5 => fX0_mean_L27 b0 a1 o4 x5 (fun (x17 : Int64) (μ18 : gM) => gP (gfld μ18 b0 0 5) fun i19 => gaQ μ18 3 i19 a1 fun o20 => tlen μ18 0 o20 (gis μ18 b0 0 <| cI (fX0_found μ18 b0 1) fun x22 μ23 => some (some (.int x22), μ23)) fun x21 => tdiv x17 ((x21 : Int32).toInt64) (gis μ18 b0 0 <| cI (fX0_found μ18 b0 4) fun x25 μ26 => some (some (.int x25), μ26)) fun x24 => gis μ18 b0 0 <| cI (fX0_ask μ18 b0 ((x24 : Int64).toInt32) 1) fun x27 μ28 => some (some (.int x27), μ28)) 10000 0 0 μ2)
set_option maxHeartbeats 4000000 in
theorem wX0_mean (l : Launch) (Γ : gG) (hst : l.stackTraces = false) (ad : Nat → Nat) (μ0 : gM) (b0 : Nat) (a1 : Int32) (r : Option Value × gM) (hf : fX0_mean μ0 b0 a1 = some r) : gMtE0 l Γ yX0_mean (wsW_ yX0_mean cX0_mean 8 (some .int) [(9, 69, 70, 126), (9, 69, 77, 138)]) ({ frames := 9, cells := 3, slots := 19, locals := 10248 } : Room) 3 19 ad μ0 [.ref (ad b0), .int a1] r := by
  intro sz
  refine g_startW hst (maxL := 8) (ret := (some .int)) (by decide) rfl g_allW (Nat.le_of_ble_eq_true rfl) ?_
  intro p e s m below meth c ls hr hlk hnm X Y h hl
  generalize gA ad μ0 sz = A at X Y h ⊢
  generalize ([.ref (ad b0), .int a1] : List Value).toArray = args at X ⊢
  have X : gX p m c cX0_mean 8 s args "SandPiano" Γ A := X
  have hl : lv_has ls 8 [(0, .ref (ad b0)), (1, .int a1)] := hl
  show W p l e ({ frames := 9, cells := 3, slots := 19, locals := 10248 } : Room) s m args below meth c s.heap [] 0 0 (MQ below (gQ0 Γ ad μ0.1 r A) args s 3 19 A) (F0 m 0 ls [])
  unfold fX0_mean at hf
  refine lv_iload_n X.hx X.hb dX0_mean_0 rfl (lv_at hl 1 rfl) ?_
  refine r_cSI (As := [.int a1]) (rest := []) X h hf (fun res hres => wX0_isRow l Γ ad _ a1 res hres) (va_cwS 1 X.hts (lw_S q341 q342 q82 q343) rfl rfl rfl (by decide +kernel) ⟨Nat.le_of_ble_eq_true rfl, Nat.le_of_ble_eq_true rfl⟩) rfl ⟨hl.1, Nat.le_of_ble_eq_true rfl, Nat.le_of_ble_eq_true rfl, Nat.le_of_ble_eq_true rfl⟩ rfl dX0_mean_1 (fun x1 μ2 H locs hf h => ?_)
  refine lv_if_ne (tgt := 9) X.hx X.hb dX0_mean_4 (by decide) (fun hc => ?_) (fun hc => ?_)
  · replace hf := gif_f hf hc
    clear hc
    refine lv_lconst (v := 0) X.hx X.hb dX0_mean_9 (by decide) ?_
    refine lv_lstore_n (lv' := [(2, .long 0), (0, .ref (ad b0)), (1, .int a1)]) X.hx X.hb dX0_mean_10 rfl hl (by decide) rfl (fun ls hl => ?_)
    refine lv_aload_n X.hx X.hb dX0_mean_11 rfl (lv_at hl 1 rfl) ?_
    refine r_getP X h (ci := 0) (k := 5) (C := RX0) (T := TX0) (N := 36) rfl in_X0 (by decide) q146 rfl dX0_mean_12 hf (fun i3 hf => ?_)
    refine lv_iload_n X.hx X.hb dX0_mean_15 rfl (lv_at hl 2 rfl) ?_
    refine r_aald X h (t := 3) rfl rfl dX0_mean_16 hf (fun o4 hf => ?_)
    refine r_astoreQ (lv' := [(4, va_rf ((o4).map ad)), (2, .long 0), (0, .ref (ad b0)), (1, .int a1)]) X.hx X.hb dX0_mean_17 hl (by decide) rfl (fun ls hl => ?_)
    refine r_aloadQ X.hx X.hb dX0_mean_19 (lv_at hl 0 rfl) ?_
    refine r_tlen (q := o4) (rest := []) X Y h (t := 0) ⟨hl.1, Nat.le_of_ble_eq_true rfl, Nat.le_of_ble_eq_true rfl, Nat.le_of_ble_eq_true rfl⟩ ⟨Nat.le_of_ble_eq_true rfl, Nat.le_of_ble_eq_true rfl⟩ ⟨0, 9, 69, 126, "java/lang/NullPointerException", rfl, by decide, by decide, by decide, q359, List.contains_iff_mem.mp (by decide +kernel), x_pre0⟩ rfl dX0_mean_21 hf (fun hf v H locs h => ?_) (fun x5 hf => ?_)
    · refine lv_astore_n (lv' := [(2, .ref v), (4, va_rf ((o4).map ad)), (0, .ref (ad b0)), (1, .int a1)]) X.hx X.hb dX0_mean_70 rfl hl (by decide) rfl (fun ls hl => ?_)
      replace hl := lv_sub hl [1, 2, 3] rfl
      have hl : lv_has ls 8 [(4, va_rf ((o4).map ad)), (0, .ref (ad b0)), (1, .int a1)] := hl
      refine lv_aload_n X.hx X.hb dX0_mean_71 rfl (lv_at hl 1 rfl) ?_
      refine lv_iconst (v := 1) X.hx X.hb dX0_mean_72 (by decide) ?_
      refine r_cVI (As := [.int 1]) (rest := []) (C := RX0) (T := TX0) (N := 36) X h hf (fun res hres => wX0_found l Γ ad _ b0 1 res hres) rfl (cwV 1 X.hts (lw_V q347 q349 qs2 q82 q350) rfl rfl rfl (by decide +kernel) ⟨Nat.le_of_ble_eq_true rfl, Nat.le_of_ble_eq_true rfl⟩) rfl ⟨hl.1, Nat.le_of_ble_eq_true rfl, Nat.le_of_ble_eq_true rfl, Nat.le_of_ble_eq_true rfl⟩ rfl dX0_mean_73 (fun x6 μ7 H locs hf h => ?_)
      exact r_ri X h hr hlk (Nat.le_of_ble_eq_true rfl) (Nat.le_of_ble_eq_true rfl) dX0_mean_76 hf
    refine lv_istore (lv' := [(5, .int x5), (4, va_rf ((o4).map ad)), (2, .long 0), (0, .ref (ad b0)), (1, .int a1)]) X.hx X.hb dX0_mean_22 hl (by decide) (by cases o4 <;> rfl) (fun ls hl => ?_)
    refine lv_iconst (v := 0) X.hx X.hb dX0_mean_24 (by decide) ?_
    refine lv_istore (lv' := [(6, .int 0), (5, .int x5), (4, va_rf ((o4).map ad)), (2, .long 0), (0, .ref (ad b0)), (1, .int a1)]) X.hx X.hb dX0_mean_25 hl (by decide) rfl (fun ls hl => ?_)
    refine wX0_mean_L27 l b0 a1 o4 x5 _ X hr hlk (fun x17 μ18 H locs ls hf h hl => ?_) 10000 _ _ _ _ _ _ hf h (lv_sub hl [4, 5, 3, 2, 1, 0] rfl)
    refine lv_aload_n X.hx X.hb dX0_mean_53 rfl (lv_at hl 0 rfl) ?_
    refine lv_lload_n X.hx X.hb dX0_mean_54 rfl (lv_at hl 2 rfl) ?_
    refine lv_aload_n X.hx X.hb dX0_mean_55 rfl (lv_at hl 0 rfl) ?_
    refine r_getP X h (ci := 0) (k := 5) (C := RX0) (T := TX0) (N := 36) rfl in_X0 (by decide) q146 rfl dX0_mean_56 hf (fun i19 hf => ?_)
    refine lv_iload_n X.hx X.hb dX0_mean_59 rfl (lv_at hl 1 rfl) ?_
    refine r_aald X h (t := 3) rfl rfl dX0_mean_60 hf (fun o20 hf => ?_)
    refine r_tlen (q := o20) (rest := [.long x17, .ref (ad b0)]) X Y h (t := 0) ⟨hl.1, Nat.le_of_ble_eq_true rfl, Nat.le_of_ble_eq_true rfl, Nat.le_of_ble_eq_true rfl⟩ ⟨Nat.le_of_ble_eq_true rfl, Nat.le_of_ble_eq_true rfl⟩ ⟨0, 9, 69, 126, "java/lang/NullPointerException", rfl, by decide, by decide, by decide, q359, List.contains_iff_mem.mp (by decide +kernel), x_pre0⟩ rfl dX0_mean_61 hf (fun hf v H locs h => ?_) (fun x21 hf => ?_)
    · refine lv_astore_n (lv' := [(2, .ref v), (0, .ref (ad b0)), (1, .int a1)]) X.hx X.hb dX0_mean_70 rfl hl (by decide) rfl (fun ls hl => ?_)
      replace hl := lv_sub hl [1, 2] rfl
      have hl : lv_has ls 8 [(0, .ref (ad b0)), (1, .int a1)] := hl
      refine lv_aload_n X.hx X.hb dX0_mean_71 rfl (lv_at hl 0 rfl) ?_
      refine lv_iconst (v := 1) X.hx X.hb dX0_mean_72 (by decide) ?_
      refine r_cVI (As := [.int 1]) (rest := []) (C := RX0) (T := TX0) (N := 36) X h hf (fun res hres => wX0_found l Γ ad _ b0 1 res hres) rfl (cwV 1 X.hts (lw_V q347 q349 qs2 q82 q350) rfl rfl rfl (by decide +kernel) ⟨Nat.le_of_ble_eq_true rfl, Nat.le_of_ble_eq_true rfl⟩) rfl ⟨hl.1, Nat.le_of_ble_eq_true rfl, Nat.le_of_ble_eq_true rfl, Nat.le_of_ble_eq_true rfl⟩ rfl dX0_mean_73 (fun x22 μ23 H locs hf h => ?_)
      exact r_ri X h hr hlk (Nat.le_of_ble_eq_true rfl) (Nat.le_of_ble_eq_true rfl) dX0_mean_76 hf
    refine lv_i2l X.hx X.hb dX0_mean_62 rfl ?_
    refine r_tdiv (rest := [.ref (ad b0)]) X Y h ⟨hl.1, Nat.le_of_ble_eq_true rfl, Nat.le_of_ble_eq_true rfl, Nat.le_of_ble_eq_true rfl⟩ ⟨Nat.le_of_ble_eq_true rfl, Nat.le_of_ble_eq_true rfl⟩ ⟨1, 9, 69, 138, "java/lang/ArithmeticException", rfl, by decide, by decide, by decide, q424, List.contains_iff_mem.mp (by decide +kernel), (x_preM (name := "java/lang/NullPointerException") (by decide) (by decide) (by decide) q359 (by decide +kernel) x_pre0)⟩ dX0_mean_63 hf (fun hf v H locs h => ?_) (fun x24 hf => ?_)
    · refine lv_astore_n (lv' := [(2, .ref v), (0, .ref (ad b0)), (1, .int a1)]) X.hx X.hb dX0_mean_77 rfl hl (by decide) rfl (fun ls hl => ?_)
      replace hl := lv_sub hl [1, 2] rfl
      have hl : lv_has ls 8 [(0, .ref (ad b0)), (1, .int a1)] := hl
      refine lv_aload_n X.hx X.hb dX0_mean_78 rfl (lv_at hl 0 rfl) ?_
      refine lv_iconst (v := 4) X.hx X.hb dX0_mean_79 (by decide) ?_
      refine r_cVI (As := [.int 4]) (rest := []) (C := RX0) (T := TX0) (N := 36) X h hf (fun res hres => wX0_found l Γ ad _ b0 4 res hres) rfl (cwV 1 X.hts (lw_V q347 q349 qs2 q82 q350) rfl rfl rfl (by decide +kernel) ⟨Nat.le_of_ble_eq_true rfl, Nat.le_of_ble_eq_true rfl⟩) rfl ⟨hl.1, Nat.le_of_ble_eq_true rfl, Nat.le_of_ble_eq_true rfl, Nat.le_of_ble_eq_true rfl⟩ rfl dX0_mean_80 (fun x25 μ26 H locs hf h => ?_)
      exact r_ri X h hr hlk (Nat.le_of_ble_eq_true rfl) (Nat.le_of_ble_eq_true rfl) dX0_mean_83 hf
    refine lv_l2i X.hx X.hb dX0_mean_64 rfl ?_
    refine lv_iconst (v := 1) X.hx X.hb dX0_mean_65 (by decide) ?_
    refine r_cVI (As := [.int ((x24 : Int64).toInt32), .int 1]) (rest := []) (C := RX0) (T := TX0) (N := 36) X h hf (fun res hres => wX0_ask l Γ ad _ b0 ((x24 : Int64).toInt32) 1 res hres) rfl (cwV 2 X.hts (lw_V q403 q405 qs3 q82 q406) rfl rfl rfl (by decide +kernel) ⟨Nat.le_of_ble_eq_true rfl, Nat.le_of_ble_eq_true rfl⟩) rfl ⟨hl.1, Nat.le_of_ble_eq_true rfl, Nat.le_of_ble_eq_true rfl, Nat.le_of_ble_eq_true rfl⟩ rfl dX0_mean_66 (fun x27 μ28 H locs hf h => ?_)
    exact r_ri X h hr hlk (Nat.le_of_ble_eq_true rfl) (Nat.le_of_ble_eq_true rfl) dX0_mean_69 hf
  · replace hf := gif_t hf hc
    clear hc
    refine lv_iconst (v := (-1)) X.hx X.hb dX0_mean_7 (by decide) ?_
    exact r_ri X h hr hlk (Nat.le_of_ble_eq_true rfl) (Nat.le_of_ble_eq_true rfl) dX0_mean_8 hf
