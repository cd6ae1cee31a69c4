set_option maxRecDepth 100000
/-! X0_found -/
def fX0_found (μ0 : gM) (b0 : Nat) (a1 : Int32) : gR := gpf μ0 b0 0 0 (.int a1) fun μ1 => gP (gfld μ1 b0 0 1) fun i2 => gaI μ1 0 i2 a1 fun x3 => gsI μ1 0 i2 a1 (x3 + 1) fun μ4 => some (some (.int (-3)), μ4)
set_option maxHeartbeats 4000000 in
theorem wX0_found (l : Launch) (Γ : gG) (ad : Nat → Nat) (μ0 : gM) (b0 : Nat) (a1 : Int32) (r : Option Value × gM) (hf : fX0_found μ0 b0 a1 = some r) : gMt0 l Γ yX0_found (ws_ yX0_found cX0_found 2 (some .int)) ({ frames := 0, cells := 0, slots := 0, locals := 0 } : Room) 0 0 ad μ0 [.ref (ad b0), .int a1] r := by
  intro sz
  refine g_start (maxL := 2) (ret := (some .int)) (by decide) rfl g_all (Nat.le_of_ble_eq_true rfl) ?_
  intro p e s m below meth c ls hr hlk hnm X h hl
  generalize gA ad μ0 sz = A at X h ⊢
  generalize ([.ref (ad b0), .int a1] : List Value).toArray = args at X ⊢
  have X : gX p m c cX0_found 2 s args "SandPiano" Γ A := X
  have hl : lv_has ls 2 [(0, .ref (ad b0)), (1, .int a1)] := hl
  show W p l e ({ frames := 0, cells := 0, slots := 0, locals := 0 } : Room) s m args below meth c s.heap [] 0 0 (MQ below (gQ0 Γ ad μ0.1 r A) args s 0 0 A) (F0 m 0 ls [])
  unfold fX0_found at hf
  refine lv_aload_n X.hx X.hb dX0_found_0 rfl (lv_at hl 0 rfl) ?_
  refine lv_iload_n X.hx X.hb dX0_found_1 rfl (lv_at hl 1 rfl) ?_
  refine r_put X h (ci := 0) (k := 0) (C := RX0) (T := TX0) (N := 36) (ty0 := tyX0) (ty := .int) (v := .int a1) rfl in_X0 tyX0_ok nmX0 (by decide) q141 rfl rfl (by decide +kernel) rfl rfl (fun j hj => by cases hj) dX0_found_2 hf (fun μ1 H locs hf h => ?_)
  refine lv_aload_n X.hx X.hb dX0_found_5 rfl (lv_at hl 0 rfl) ?_
  refine r_getP X h (ci := 0) (k := 1) (C := RX0) (T := TX0) (N := 36) rfl in_X0 (by decide) q142 rfl dX0_found_6 hf (fun i2 hf => ?_)
  refine lv_iload_n X.hx X.hb dX0_found_9 rfl (lv_at hl 1 rfl) ?_
  refine lv_dup2_11 X.hx X.hb dX0_found_10 rfl rfl ?_
  refine r_iald X h dX0_found_11 hf (fun x3 hf => ?_)
  refine lv_iconst (v := 1) X.hx X.hb dX0_found_12 (by decide) ?_
  refine lv_iadd X.hx X.hb dX0_found_13 ?_
  refine r_iast X h dX0_found_14 hf (fun μ4 H locs hf h => ?_)
  refine lv_bipush (v := (-3)) X.hx X.hb dX0_found_15 (by decide) ?_
  exact r_ri X h hr hlk (Nat.le_of_ble_eq_true rfl) (Nat.le_of_ble_eq_true rfl) dX0_found_17 hf
/-! X0_isIn -/
def fX0_isIn (μ0 : gM) (a1 : Int32) (a2 : Int32) (a3 : Int32) : gR := if a1 < a2 then (rZ 0 μ0) else (if a3 < a1 then (rZ 0 μ0) else (rZ 1 μ0))
set_option maxHeartbeats 4000000 in
theorem wX0_isIn (l : Launch) (Γ : gG) (ad : Nat → Nat) (μ0 : gM) (a1 : Int32) (a2 : Int32) (a3 : Int32) (r : Option Value × gM) (hf : fX0_isIn μ0 a1 a2 a3 = some r) : gMt0 l Γ yX0_isIn (ws_ yX0_isIn cX0_isIn 3 (some .boolean)) ({ frames := 0, cells := 0, slots := 0, locals := 0 } : Room) 0 0 ad μ0 [.int a1, .int a2, .int a3] r := by
  intro sz
  refine g_start (maxL := 3) (ret := (some .boolean)) (by decide) rfl g_all (Nat.le_of_ble_eq_true rfl) ?_
  intro p e s m below meth c ls hr hlk hnm X h hl
  generalize gA ad μ0 sz = A at X h ⊢
  generalize ([.int a1, .int a2, .int a3] : List Value).toArray = args at X ⊢
  have X : gX p m c cX0_isIn 3 s args "SandPiano" Γ A := X
  have hl : lv_has ls 3 [(0, .int a1), (1, .int a2), (2, .int a3)] := hl
  show W p l e ({ frames := 0, cells := 0, slots := 0, locals := 0 } : Room) s m args below meth c s.heap [] 0 0 (MQ below (gQ0 Γ ad μ0.1 r A) args s 0 0 A) (F0 m 0 ls [])
  unfold fX0_isIn at hf
  refine lv_iload_n X.hx X.hb dX0_isIn_0 rfl (lv_at hl 0 rfl) ?_
  refine lv_iload_n X.hx X.hb dX0_isIn_1 rfl (lv_at hl 1 rfl) ?_
  refine lv_icmp_lt (tgt := 14) X.hx X.hb dX0_isIn_2 (by decide) (fun hc => ?_) (fun hc => ?_)
  · replace hf := gif_t hf hc
    clear hc
    refine lv_iconst (v := 0) X.hx X.hb dX0_isIn_14 (by decide) ?_
    exact r_rz X h hr hlk (Nat.le_of_ble_eq_true rfl) (Nat.le_of_ble_eq_true rfl) dX0_isIn_15 hf
  · replace hf := gif_f hf hc
    clear hc
    refine lv_iload_n X.hx X.hb dX0_isIn_5 rfl (lv_at hl 0 rfl) ?_
    refine lv_iload_n X.hx X.hb dX0_isIn_6 rfl (lv_at hl 2 rfl) ?_
    refine lv_icmp_gt (tgt := 14) X.hx X.hb dX0_isIn_7 (by decide) (fun hc => ?_) (fun hc => ?_)
    · replace hf := gif_t hf hc
      clear hc
      refine lv_iconst (v := 0) X.hx X.hb dX0_isIn_14 (by decide) ?_
      exact r_rz X h hr hlk (Nat.le_of_ble_eq_true rfl) (Nat.le_of_ble_eq_true rfl) dX0_isIn_15 hf
    · replace hf := gif_f hf hc
      clear hc
      refine lv_iconst (v := 1) X.hx X.hb dX0_isIn_10 (by decide) ?_
      refine lv_goto (tgt := 15) X.hx X.hb dX0_isIn_11 (by decide) ?_
      exact r_rz X h hr hlk (Nat.le_of_ble_eq_true rfl) (Nat.le_of_ble_eq_true rfl) dX0_isIn_15 hf
/-! X0_isRow -/
def fX0_isRow (μ0 : gM) (a1 : Int32) : gR := cI (fX0_isIn μ0 a1 0 5) fun x1 μ2 => rZ x1 μ2
set_option maxHeartbeats 4000000 in
theorem wX0_isRow (l : Launch) (Γ : gG) (ad : Nat → Nat) (μ0 : gM) (a1 : Int32) (r : Option Value × gM) (hf : fX0_isRow μ0 a1 = some r) : gMt0 l Γ yX0_isRow (ws_ yX0_isRow cX0_isRow 1 (some .boolean)) ({ frames := 1, cells := 0, slots := 0, locals := 22 } : Room) 0 0 ad μ0 [.int a1] r := by
  intro sz
  refine g_start (maxL := 1) (ret := (some .boolean)) (by decide) rfl g_all (Nat.le_of_ble_eq_true rfl) ?_
  intro p e s m below meth c ls hr hlk hnm X h hl
  generalize gA ad μ0 sz = A at X h ⊢
  generalize ([.int a1] : List Value).toArray = args at X ⊢
  have X : gX p m c cX0_isRow 1 s args "SandPiano" Γ A := X
  have hl : lv_has ls 1 [(0, .int a1)] := hl
  show W p l e ({ frames := 1, cells := 0, slots := 0, locals := 22 } : Room) s m args below meth c s.heap [] 0 0 (MQ below (gQ0 Γ ad μ0.1 r A) args s 0 0 A) (F0 m 0 ls [])
  unfold fX0_isRow at hf
  refine lv_iload_n X.hx X.hb dX0_isRow_0 rfl (lv_at hl 0 rfl) ?_
  refine lv_iconst (v := 0) X.hx X.hb dX0_isRow_1 (by decide) ?_
  refine lv_iconst (v := 5) X.hx X.hb dX0_isRow_2 (by decide) ?_
  refine r_cSI (As := [.int a1, .int 0, .int 5]) (rest := []) X h hf (fun res hres => wX0_isIn l Γ ad _ a1 0 5 res hres) (va_cwS 3 X.hts (lw_S q344 q345 q82 q346) rfl rfl rfl (by decide +kernel) ⟨Nat.le_of_ble_eq_true rfl, Nat.le_of_ble_eq_true rfl⟩) rfl ⟨hl.1, Nat.le_of_ble_eq_true rfl, Nat.le_of_ble_eq_true rfl, Nat.le_of_ble_eq_true rfl⟩ rfl dX0_isRow_3 (fun x1 μ2 H locs hf h => ?_)
  exact r_rz X h hr hlk (Nat.le_of_ble_eq_true rfl) (Nat.le_of_ble_eq_true rfl) dX0_isRow_6 hf
/-! X0_copy -/
def fX0_copy (μ0 : gM) (b0 : Nat) (a1 : Int32) (a2 : Int32) (a3 : Int32) (a4 : Int32) (a5 : Int32) : gR := cI (fX0_isRow μ0 a1) fun x1 μ2 => if x1 = 0 then (some (some (.int (-1)), μ2)) else (cI (fX0_isRow μ2 a3) fun x3 μ4 => if x3 = 0 then (some (some (.int (-1)), μ4)) else (if 0 ≤ a5 then (gP (gfld μ4 b0 0 5) fun i5 => gaQ μ4 3 i5 a1 fun o6 => gP (gfld μ4 b0 0 5) fun i7 => gaQ μ4 3 i7 a3 fun o8 => tcp μ4 o6 a2 o8 a4 a5 (gis μ4 b0 0 <| cI (fX0_found μ4 b0 1) fun x10 μ11 => some (some (.int x10), μ11)) (gis μ4 b0 0 <| cI (fX0_found μ4 b0 2) fun x12 μ13 => some (some (.int x12), μ13)) fun μ9 => some (some (.int 1), μ9)) else (gis μ4 b0 0 <| cI (fX0_found μ4 b0 5) fun x14 μ15 => some (some (.int x14), μ15))))
set_option maxHeartbeats 4000000 in
theorem wX0_copy (l : Launch) (Γ : gG) (hst : l.stackTraces = false) (ad : Nat → Nat) (μ0 : gM) (b0 : Nat) (a1 : Int32) (a2 : Int32) (a3 : Int32) (a4 : Int32) (a5 : Int32) (r : Option Value × gM) (hf : fX0_copy μ0 b0 a1 a2 a3 a4 a5 = some r) : gMtE0 l Γ yX0_copy (wsW_ yX0_copy cX0_copy 7 (some .int) [(27, 48, 49, 126), (27, 48, 57, 136)]) ({ frames := 9, cells := 3, slots := 370, locals := 10248 } : Room) 3 370 ad μ0 [.ref (ad b0), .int a1, .int a2, .int a3, .int a4, .int a5] r := by
  intro sz
  refine g_startW hst (maxL := 7) (ret := (some .int)) (by decide) rfl g_allW (Nat.le_of_ble_eq_true rfl) ?_
  intro p e s m below meth c ls hr hlk hnm X Y h hl
  generalize gA ad μ0 sz = A at X Y h ⊢
  generalize ([.ref (ad b0), .int a1, .int a2, .int a3, .int a4, .int a5] : List Value).toArray = args at X ⊢
  have X : gX p m c cX0_copy 7 s args "SandPiano" Γ A := X
  have hl : lv_has ls 7 [(0, .ref (ad b0)), (1, .int a1), (2, .int a2), (3, .int a3), (4, .int a4), (5, .int a5)] := hl
  show W p l e ({ frames := 9, cells := 3, slots := 370, locals := 10248 } : Room) s m args below meth c s.heap [] 0 0 (MQ below (gQ0 Γ ad μ0.1 r A) args s 3 370 A) (F0 m 0 ls [])
  unfold fX0_copy at hf
  refine lv_iload_n X.hx X.hb dX0_copy_0 rfl (lv_at hl 1 rfl) ?_
  refine r_cSI (As := [.int a1]) (rest := []) X h hf (fun res hres => wX0_isRow l Γ ad _ a1 res hres) (va_cwS 1 X.hts (lw_S q341 q342 q82 q343) rfl rfl rfl (by decide +kernel) ⟨Nat.le_of_ble_eq_true rfl, Nat.le_of_ble_eq_true rfl⟩) rfl ⟨hl.1, Nat.le_of_ble_eq_true rfl, Nat.le_of_ble_eq_true rfl, Nat.le_of_ble_eq_true rfl⟩ rfl dX0_copy_1 (fun x1 μ2 H locs hf h => ?_)
  refine lv_if_eq (tgt := 14) X.hx X.hb dX0_copy_4 (by decide) (fun hc => ?_) (fun hc => ?_)
  · replace hf := gif_t hf hc
    clear hc
    refine lv_iconst (v := (-1)) X.hx X.hb dX0_copy_14 (by decide) ?_
    exact r_ri X h hr hlk (Nat.le_of_ble_eq_true rfl) (Nat.le_of_ble_eq_true rfl) dX0_copy_15 hf
  · replace hf := gif_f hf hc
    clear hc
    refine lv_iload_n X.hx X.hb dX0_copy_7 rfl (lv_at hl 3 rfl) ?_
    refine r_cSI (As := [.int a3]) (rest := []) X h hf (fun res hres => wX0_isRow l Γ ad _ a3 res hres) (va_cwS 1 X.hts (lw_S q341 q342 q82 q343) rfl rfl rfl (by decide +kernel) ⟨Nat.le_of_ble_eq_true rfl, Nat.le_of_ble_eq_true rfl⟩) rfl ⟨hl.1, Nat.le_of_ble_eq_true rfl, Nat.le_of_ble_eq_true rfl, Nat.le_of_ble_eq_true rfl⟩ rfl dX0_copy_8 (fun x3 μ4 H locs hf h => ?_)
    refine lv_if_ne (tgt := 16) X.hx X.hb dX0_copy_11 (by decide) (fun hc => ?_) (fun hc => ?_)
    · replace hf := gif_f hf hc
      clear hc
      refine lv_iload X.hx X.hb dX0_copy_16 (lv_at hl 5 rfl) ?_
      refine lv_if_ge (tgt := 27) X.hx X.hb dX0_copy_18 (by decide) (fun hc => ?_) (fun hc => ?_)
      · replace hf := gif_t hf hc
        clear hc
        refine lv_aload_n X.hx X.hb dX0_copy_27 rfl (lv_at hl 0 rfl) ?_
        refine r_getP X h (ci := 0) (k := 5) (C := RX0) (T := TX0) (N := 36) rfl in_X0 (by decide) q146 rfl dX0_copy_28 hf (fun i5 hf => ?_)
        refine lv_iload_n X.hx X.hb dX0_copy_31 rfl (lv_at hl 1 rfl) ?_
        refine r_aald X h (t := 3) rfl rfl dX0_copy_32 hf (fun o6 hf => ?_)
        refine lv_iload_n X.hx X.hb dX0_copy_33 rfl (lv_at hl 2 rfl) ?_
        refine lv_aload_n X.hx X.hb dX0_copy_34 rfl (lv_at hl 0 rfl) ?_
        refine r_getP X h (ci := 0) (k := 5) (C := RX0) (T := TX0) (N := 36) rfl in_X0 (by decide) q146 rfl dX0_copy_35 hf (fun i7 hf => ?_)
        refine lv_iload_n X.hx X.hb dX0_copy_38 rfl (lv_at hl 3 rfl) ?_
        refine r_aald X h (t := 3) rfl rfl dX0_copy_39 hf (fun o8 hf => ?_)
        refine lv_iload X.hx X.hb dX0_copy_40 (lv_at hl 4 rfl) ?_
        refine lv_iload X.hx X.hb dX0_copy_42 (lv_at hl 5 rfl) ?_
        refine r_tcopy (q := o6) (q' := o8) (rest := []) X Y h ⟨hl.1, Nat.le_of_ble_eq_true rfl, Nat.le_of_ble_eq_true rfl, Nat.le_of_ble_eq_true rfl⟩ ⟨Nat.le_of_ble_eq_true rfl, Nat.le_of_ble_eq_true rfl⟩ ⟨0, 27, 48, 126, "java/lang/NullPointerException", rfl, by decide, by decide, by decide, q359, List.contains_iff_mem.mp (by decide +kernel), x_pre0⟩ ⟨1, 27, 48, 136, "java/lang/IndexOutOfBoundsException", rfl, by decide, by decide, by decide, q416, List.contains_iff_mem.mp (by decide +kernel), (x_preM (name := "java/lang/NullPointerException") (by decide) (by decide) (by decide) q359 (by decide +kernel) x_pre0)⟩ q417 dX0_copy_44 hf (fun hf v H locs h => ?_) (fun hf v H locs h => ?_) (fun μ9 H locs hf h => ?_)
        · refine lv_astore (lv' := [(6, .ref v), (0, .ref (ad b0)), (1, .int a1), (2, .int a2), (3, .int a3), (4, .int a4), (5, .int a5)]) X.hx X.hb dX0_copy_49 hl (by decide) rfl (fun ls hl => ?_)
          replace hl := lv_sub hl [1, 2, 3, 4, 5, 6] rfl
          have hl : lv_has ls 7 [(0, .ref (ad b0)), (1, .int a1), (2, .int a2), (3, .int a3), (4, .int a4), (5, .int a5)] := hl
          refine lv_aload_n X.hx X.hb dX0_copy_51 rfl (lv_at hl 0 rfl) ?_
          refine lv_iconst (v := 1) X.hx X.hb dX0_copy_52 (by decide) ?_
          refine r_cVI (As := [.int 1]) (rest := []) (C := RX0) (T := TX0) (N := 36) X h hf (fun res hres => wX0_found l Γ ad _ b0 1 res hres) rfl (cwV 1 X.hts (lw_V q347 q349 qs2 q82 q350) rfl rfl rfl (by decide +kernel) ⟨Nat.le_of_ble_eq_true rfl, Nat.le_of_ble_eq_true rfl⟩) rfl ⟨hl.1, Nat.le_of_ble_eq_true rfl, Nat.le_of_ble_eq_true rfl, Nat.le_of_ble_eq_true rfl⟩ rfl dX0_copy_53 (fun x10 μ11 H locs hf h => ?_)
          exact r_ri X h hr hlk (Nat.le_of_ble_eq_true rfl) (Nat.le_of_ble_eq_true rfl) dX0_copy_56 hf
        · refine lv_astore (lv' := [(6, .ref v), (0, .ref (ad b0)), (1, .int a1), (2, .int a2), (3, .int a3), (4, .int a4), (5, .int a5)]) X.hx X.hb dX0_copy_57 hl (by decide) rfl (fun ls hl => ?_)
          replace hl := lv_sub hl [1, 2, 3, 4, 5, 6] rfl
          have hl : lv_has ls 7 [(0, .ref (ad b0)), (1, .int a1), (2, .int a2), (3, .int a3), (4, .int a4), (5, .int a5)] := hl
          refine lv_aload_n X.hx X.hb dX0_copy_59 rfl (lv_at hl 0 rfl) ?_
          refine lv_iconst (v := 2) X.hx X.hb dX0_copy_60 (by decide) ?_
          refine r_cVI (As := [.int 2]) (rest := []) (C := RX0) (T := TX0) (N := 36) X h hf (fun res hres => wX0_found l Γ ad _ b0 2 res hres) rfl (cwV 1 X.hts (lw_V q347 q349 qs2 q82 q350) rfl rfl rfl (by decide +kernel) ⟨Nat.le_of_ble_eq_true rfl, Nat.le_of_ble_eq_true rfl⟩) rfl ⟨hl.1, Nat.le_of_ble_eq_true rfl, Nat.le_of_ble_eq_true rfl, Nat.le_of_ble_eq_true rfl⟩ rfl dX0_copy_61 (fun x12 μ13 H locs hf h => ?_)
          exact r_ri X h hr hlk (Nat.le_of_ble_eq_true rfl) (Nat.le_of_ble_eq_true rfl) dX0_copy_64 hf
        refine lv_iconst (v := 1) X.hx X.hb dX0_copy_47 (by decide) ?_
        exact r_ri X h hr hlk (Nat.le_of_ble_eq_true rfl) (Nat.le_of_ble_eq_true rfl) dX0_copy_48 hf
      · replace hf := gif_f hf hc
        clear hc
        refine lv_aload_n X.hx X.hb dX0_copy_21 rfl (lv_at hl 0 rfl) ?_
        refine lv_iconst (v := 5) X.hx X.hb dX0_copy_22 (by decide) ?_
        refine r_cVI (As := [.int 5]) (rest := []) (C := RX0) (T := TX0) (N := 36) X h hf (fun res hres => wX0_found l Γ ad _ b0 5 res hres) rfl (cwV 1 X.hts (lw_V q347 q349 qs2 q82 q350) rfl rfl rfl (by decide +kernel) ⟨Nat.le_of_ble_eq_true rfl, Nat.le_of_ble_eq_true rfl⟩) rfl ⟨hl.1, Nat.le_of_ble_eq_true rfl, Nat.le_of_ble_eq_true rfl, Nat.le_of_ble_eq_true rfl⟩ rfl dX0_copy_23 (fun x14 μ15 H locs hf h => ?_)
        exact r_ri X h hr hlk (Nat.le_of_ble_eq_true rfl) (Nat.le_of_ble_eq_true rfl) dX0_copy_26 hf
    · replace hf := gif_t hf hc
      clear hc
      refine lv_iconst (v := (-1)) X.hx X.hb dX0_copy_14 (by decide) ?_
      exact r_ri X h hr hlk (Nat.le_of_ble_eq_true rfl) (Nat.le_of_ble_eq_true rfl) dX0_copy_15 hf
