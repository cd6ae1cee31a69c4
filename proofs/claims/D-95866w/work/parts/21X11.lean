set_option maxRecDepth 100000
/-! X0_play -/
def fX0_play (μ0 : gM) (b0 : Nat) (a1 : Int32) : gR := gis μ0 b0 0 <| cI (fX0_isKey μ0 b0 a1) fun x1 μ2 => if x1 = 0 then (some (some (.int (-1)), μ2)) else (gP (gfld μ2 b0 0 9) fun i3 => gaQ μ2 5 i3 a1 fun o4 => gnn o4 fun i5 => gP (gfld μ2 b0 0 10) fun i6 => cI (vX3_plays μ2 i5 i6) fun x7 μ8 => if x7 = 0 then (some (some (.int (-4)), μ8)) else (gI (gfld μ8 b0 0 19) fun x9 => if x9 = 60 then (some (some (.int (-2)), μ8)) else (gis μ8 b0 0 <| cV (fX0_note μ8 b0) fun μ10 => gP (gfld μ10 b0 0 10) fun i11 => gis μ10 b0 0 <| cV (fX0_playIn μ10 b0 i11 a1) fun μ12 => gP (gfld μ12 b0 0 9) fun i13 => gaQ μ12 5 i13 a1 fun o14 => gnn o14 fun i15 => cI (vX3_pay μ12 i15) fun x16 μ17 => some (some (.int x16), μ17))))
set_option maxHeartbeats 4000000 in
theorem wX0_play (l : Launch) (Γ : gG) (ad : Nat → Nat) (μ0 : gM) (b0 : Nat) (a1 : Int32) (r : Option Value × gM) (hf : fX0_play μ0 b0 a1 = some r) : gMt0 l Γ yX0_play (ws_ yX0_play cX0_play 2 (some .int)) ({ frames := 4, cells := 0, slots := 0, locals := 89 } : Room) 0 0 ad μ0 [.ref (ad b0), .int a1] r := by
  intro sz
  refine g_start (maxL := 2) (ret := (some .int)) (by decide) rfl g_all (Nat.le_of_ble_eq_true rfl) ?_
  intro p e s m below meth c ls hr hlk hnm X h hl
  generalize gA ad μ0 sz = A at X h ⊢
  generalize ([.ref (ad b0), .int a1] : List Value).toArray = args at X ⊢
  have X : gX p m c cX0_play 2 s args "SandPiano" Γ A := X
  have hl : lv_has ls 2 [(0, .ref (ad b0)), (1, .int a1)] := hl
  show W p l e ({ frames := 4, cells := 0, slots := 0, locals := 89 } : Room) s m args below meth c s.heap [] 0 0 (MQ below (gQ0 Γ ad μ0.1 r A) args s 0 0 A) (F0 m 0 ls [])
  unfold fX0_play at hf
  refine lv_aload_n X.hx X.hb dX0_play_0 rfl (lv_at hl 0 rfl) ?_
  refine lv_iload_n X.hx X.hb dX0_play_1 rfl (lv_at hl 1 rfl) ?_
  refine r_cVI (As := [.int a1]) (rest := []) (C := RX0) (T := TX0) (N := 36) X h hf (fun res hres => wX0_isKey l Γ ad _ b0 a1 res hres) rfl (cwV 1 X.hts (lw_V q549 q551 qs9 q82 q552) rfl rfl rfl (by decide +kernel) ⟨Nat.le_of_ble_eq_true rfl, Nat.le_of_ble_eq_true rfl⟩) rfl ⟨hl.1, Nat.le_of_ble_eq_true rfl, Nat.le_of_ble_eq_true rfl, Nat.le_of_ble_eq_true rfl⟩ rfl dX0_play_2 (fun x1 μ2 H locs hf h => ?_)
  refine lv_if_ne (tgt := 10) X.hx X.hb dX0_play_5 (by decide) (fun hc => ?_) (fun hc => ?_)
  · replace hf := gif_f hf hc
    clear hc
    refine lv_aload_n X.hx X.hb dX0_play_10 rfl (lv_at hl 0 rfl) ?_
    refine r_getP X h (ci := 0) (k := 9) (C := RX0) (T := TX0) (N := 36) rfl in_X0 (by decide) q151 rfl dX0_play_11 hf (fun i3 hf => ?_)
    refine lv_iload_n X.hx X.hb dX0_play_14 rfl (lv_at hl 1 rfl) ?_
    refine r_aald X h (t := 5) rfl rfl dX0_play_15 hf (fun o4 hf => ?_)
    refine r_nn hf (fun i5 hf => ?_)
    refine lv_aload_n X.hx X.hb dX0_play_16 rfl (lv_at hl 0 rfl) ?_
    refine r_getP X h (ci := 0) (k := 10) (C := RX0) (T := TX0) (N := 36) rfl in_X0 (by decide) q152 rfl dX0_play_17 hf (fun i6 hf => ?_)
    refine wvX3_plays X h q597 (Nat.le_of_ble_eq_true rfl) (Nat.le_of_ble_eq_true rfl) (rest := []) ⟨hl.1, Nat.le_of_ble_eq_true rfl, Nat.le_of_ble_eq_true rfl, Nat.le_of_ble_eq_true rfl⟩ rfl dX0_play_20 hf (fun x7 μ8 H locs hf h => ?_)
    refine lv_if_ne (tgt := 29) X.hx X.hb dX0_play_23 (by decide) (fun hc => ?_) (fun hc => ?_)
    · replace hf := gif_f hf hc
      clear hc
      refine lv_aload_n X.hx X.hb dX0_play_29 rfl (lv_at hl 0 rfl) ?_
      refine r_getI X h (ci := 0) (k := 19) (C := RX0) (T := TX0) (N := 36) rfl in_X0 (by decide) q161 rfl dX0_play_30 hf (fun x9 hf => ?_)
      refine lv_bipush (v := 60) X.hx X.hb dX0_play_33 (by decide) ?_
      refine lv_icmp_ne (tgt := 41) X.hx X.hb dX0_play_35 (by decide) (fun hc => ?_) (fun hc => ?_)
      · replace hf := gif_f hf hc
        clear hc
        refine lv_aload_n X.hx X.hb dX0_play_41 rfl (lv_at hl 0 rfl) ?_
        refine r_cVV (As := []) (rest := []) (C := RX0) (T := TX0) (N := 36) X h hf (fun res hres => wX0_note l Γ ad _ b0 res hres) rfl (cwV 0 X.hts (lw_V q718 q720 qs13 q82 q721) rfl rfl rfl (by decide +kernel) ⟨Nat.le_of_ble_eq_true rfl, Nat.le_of_ble_eq_true rfl⟩) rfl ⟨hl.1, Nat.le_of_ble_eq_true rfl, Nat.le_of_ble_eq_true rfl, Nat.le_of_ble_eq_true rfl⟩ rfl dX0_play_42 (fun μ10 H locs hf h => ?_)
        refine lv_aload_n X.hx X.hb dX0_play_45 rfl (lv_at hl 0 rfl) ?_
        refine lv_aload_n X.hx X.hb dX0_play_46 rfl (lv_at hl 0 rfl) ?_
        refine r_getP X h (ci := 0) (k := 10) (C := RX0) (T := TX0) (N := 36) rfl in_X0 (by decide) q152 rfl dX0_play_47 hf (fun i11 hf => ?_)
        refine lv_iload_n X.hx X.hb dX0_play_50 rfl (lv_at hl 1 rfl) ?_
        refine r_cVV (As := [.ref (ad i11), .int a1]) (rest := []) (C := RX0) (T := TX0) (N := 36) X h hf (fun res hres => wX0_playIn l Γ ad _ b0 i11 a1 res hres) rfl (cwV 2 X.hts (lw_V q722 q724 qs14 q82 q725) rfl rfl rfl (by decide +kernel) ⟨Nat.le_of_ble_eq_true rfl, Nat.le_of_ble_eq_true rfl⟩) rfl ⟨hl.1, Nat.le_of_ble_eq_true rfl, Nat.le_of_ble_eq_true rfl, Nat.le_of_ble_eq_true rfl⟩ rfl dX0_play_51 (fun μ12 H locs hf h => ?_)
        refine lv_aload_n X.hx X.hb dX0_play_54 rfl (lv_at hl 0 rfl) ?_
        refine r_getP X h (ci := 0) (k := 9) (C := RX0) (T := TX0) (N := 36) rfl in_X0 (by decide) q151 rfl dX0_play_55 hf (fun i13 hf => ?_)
        refine lv_iload_n X.hx X.hb dX0_play_58 rfl (lv_at hl 1 rfl) ?_
        refine r_aald X h (t := 5) rfl rfl dX0_play_59 hf (fun o14 hf => ?_)
        refine r_nn hf (fun i15 hf => ?_)
        refine wvX3_pay X h q587 (Nat.le_of_ble_eq_true rfl) (Nat.le_of_ble_eq_true rfl) (rest := []) ⟨hl.1, Nat.le_of_ble_eq_true rfl, Nat.le_of_ble_eq_true rfl, Nat.le_of_ble_eq_true rfl⟩ rfl dX0_play_60 hf (fun x16 μ17 H locs hf h => ?_)
        exact r_ri X h hr hlk (Nat.le_of_ble_eq_true rfl) (Nat.le_of_ble_eq_true rfl) dX0_play_63 hf
      · replace hf := gif_t hf hc
        clear hc
        refine lv_bipush (v := (-2)) X.hx X.hb dX0_play_38 (by decide) ?_
        exact r_ri X h hr hlk (Nat.le_of_ble_eq_true rfl) (Nat.le_of_ble_eq_true rfl) dX0_play_40 hf
    · replace hf := gif_t hf hc
      clear hc
      refine lv_bipush (v := (-4)) X.hx X.hb dX0_play_26 (by decide) ?_
      exact r_ri X h hr hlk (Nat.le_of_ble_eq_true rfl) (Nat.le_of_ble_eq_true rfl) dX0_play_28 hf
  · replace hf := gif_t hf hc
    clear hc
    refine lv_iconst (v := (-1)) X.hx X.hb dX0_play_8 (by decide) ?_
    exact r_ri X h hr hlk (Nat.le_of_ble_eq_true rfl) (Nat.le_of_ble_eq_true rfl) dX0_play_9 hf
/-! X0_put -/
def fX0_put (μ0 : gM) (b0 : Nat) (a1 : Int32) (a2 : Int32) (a3 : Int32) : gR := cI (fX0_isText μ0 a1) fun x1 μ2 => if x1 = 0 then (some (some (.int (-1)), μ2)) else (gP (gfld μ2 b0 0 6) fun i3 => gaQ μ2 4 i3 a1 fun o4 => tald μ2 1 o4 a2 (gis μ2 b0 0 <| cI (fX0_found μ2 b0 1) fun x6 μ7 => some (some (.int x6), μ7)) (gis μ2 b0 0 <| cI (fX0_found μ2 b0 2) fun x8 μ9 => some (some (.int x8), μ9)) fun x5 => gP (gfld μ2 b0 0 6) fun i10 => gaQ μ2 4 i10 a1 fun o11 => tast μ2 1 o11 a2 (vp_nar .byte ((a3 : Int32).toInt8.toInt32)) (gis μ2 b0 0 <| cI (fX0_found μ2 b0 1) fun x13 μ14 => some (some (.int x13), μ14)) (gis μ2 b0 0 <| cI (fX0_found μ2 b0 2) fun x15 μ16 => some (some (.int x15), μ16)) fun μ12 => some (some (.int (x5 + 1000)), μ12))
set_option maxHeartbeats 4000000 in
theorem wX0_put (l : Launch) (Γ : gG) (hst : l.stackTraces = false) (ad : Nat → Nat) (μ0 : gM) (b0 : Nat) (a1 : Int32) (a2 : Int32) (a3 : Int32) (r : Option Value × gM) (hf : fX0_put μ0 b0 a1 a2 a3 = some r) : gMtE0 l Γ yX0_put (wsW_ yX0_put cX0_put 5 (some .int) [(9, 35, 36, 126), (9, 35, 44, 128)]) ({ frames := 9, cells := 3, slots := 222, locals := 10248 } : Room) 3 222 ad μ0 [.ref (ad b0), .int a1, .int a2, .int a3] r := by
  intro sz
  refine g_startW hst (maxL := 5) (ret := (some .int)) (by decide) rfl g_allW (Nat.le_of_ble_eq_true rfl) ?_
  intro p e s m below meth c ls hr hlk hnm X Y h hl
  generalize gA ad μ0 sz = A at X Y h ⊢
  generalize ([.ref (ad b0), .int a1, .int a2, .int a3] : List Value).toArray = args at X ⊢
  have X : gX p m c cX0_put 5 s args "SandPiano" Γ A := X
  have hl : lv_has ls 5 [(0, .ref (ad b0)), (1, .int a1), (2, .int a2), (3, .int a3)] := hl
  show W p l e ({ frames := 9, cells := 3, slots := 222, locals := 10248 } : Room) s m args below meth c s.heap [] 0 0 (MQ below (gQ0 Γ ad μ0.1 r A) args s 3 222 A) (F0 m 0 ls [])
  unfold fX0_put at hf
  refine lv_iload_n X.hx X.hb dX0_put_0 rfl (lv_at hl 1 rfl) ?_
  refine r_cSI (As := [.int a1]) (rest := []) X h hf (fun res hres => wX0_isText l Γ ad _ a1 res hres) (va_cwS 1 X.hts (lw_S q442 q443 q82 q444) rfl rfl rfl (by decide +kernel) ⟨Nat.le_of_ble_eq_true rfl, Nat.le_of_ble_eq_true rfl⟩) rfl ⟨hl.1, Nat.le_of_ble_eq_true rfl, Nat.le_of_ble_eq_true rfl, Nat.le_of_ble_eq_true rfl⟩ rfl dX0_put_1 (fun x1 μ2 H locs hf h => ?_)
  refine lv_if_ne (tgt := 9) X.hx X.hb dX0_put_4 (by decide) (fun hc => ?_) (fun hc => ?_)
  · replace hf := gif_f hf hc
    clear hc
    refine lv_aload_n X.hx X.hb dX0_put_9 rfl (lv_at hl 0 rfl) ?_
    refine r_getP X h (ci := 0) (k := 6) (C := RX0) (T := TX0) (N := 36) rfl in_X0 (by decide) q147 rfl dX0_put_10 hf (fun i3 hf => ?_)
    refine lv_iload_n X.hx X.hb dX0_put_13 rfl (lv_at hl 1 rfl) ?_
    refine r_aald X h (t := 4) rfl rfl dX0_put_14 hf (fun o4 hf => ?_)
    refine lv_iload_n X.hx X.hb dX0_put_15 rfl (lv_at hl 2 rfl) ?_
    refine r_tbald (q := o4) (rest := []) X Y h ⟨hl.1, Nat.le_of_ble_eq_true rfl, Nat.le_of_ble_eq_true rfl, Nat.le_of_ble_eq_true rfl⟩ ⟨Nat.le_of_ble_eq_true rfl, Nat.le_of_ble_eq_true rfl⟩ ⟨0, 9, 35, 126, "java/lang/NullPointerException", rfl, by decide, by decide, by decide, q359, List.contains_iff_mem.mp (by decide +kernel), x_pre0⟩ ⟨1, 9, 35, 128, "java/lang/ArrayIndexOutOfBoundsException", rfl, by decide, by decide, by decide, q384, List.contains_iff_mem.mp (by decide +kernel), (x_preM (name := "java/lang/NullPointerException") (by decide) (by decide) (by decide) q359 (by decide +kernel) x_pre0)⟩ dX0_put_16 hf (fun hf v H locs h => ?_) (fun hf v H locs h => ?_) (fun x5 hf => ?_)
    · refine lv_astore (lv' := [(4, .ref v), (0, .ref (ad b0)), (1, .int a1), (2, .int a2), (3, .int a3)]) X.hx X.hb dX0_put_36 hl (by decide) rfl (fun ls hl => ?_)
      replace hl := lv_sub hl [1, 2, 3, 4] rfl
      have hl : lv_has ls 5 [(0, .ref (ad b0)), (1, .int a1), (2, .int a2), (3, .int a3)] := hl
      refine lv_aload_n X.hx X.hb dX0_put_38 rfl (lv_at hl 0 rfl) ?_
      refine lv_iconst (v := 1) X.hx X.hb dX0_put_39 (by decide) ?_
      refine r_cVI (As := [.int 1]) (rest := []) (C := RX0) (T := TX0) (N := 36) X h hf (fun res hres => wX0_found l Γ ad _ b0 1 res hres) rfl (cwV 1 X.hts (lw_V q347 q349 qs2 q82 q350) rfl rfl rfl (by decide +kernel) ⟨Nat.le_of_ble_eq_true rfl, Nat.le_of_ble_eq_true rfl⟩) rfl ⟨hl.1, Nat.le_of_ble_eq_true rfl, Nat.le_of_ble_eq_true rfl, Nat.le_of_ble_eq_true rfl⟩ rfl dX0_put_40 (fun x6 μ7 H locs hf h => ?_)
      exact r_ri X h hr hlk (Nat.le_of_ble_eq_true rfl) (Nat.le_of_ble_eq_true rfl) dX0_put_43 hf
    · refine lv_astore (lv' := [(4, .ref v), (0, .ref (ad b0)), (1, .int a1), (2, .int a2), (3, .int a3)]) X.hx X.hb dX0_put_44 hl (by decide) rfl (fun ls hl => ?_)
      replace hl := lv_sub hl [1, 2, 3, 4] rfl
      have hl : lv_has ls 5 [(0, .ref (ad b0)), (1, .int a1), (2, .int a2), (3, .int a3)] := hl
      refine lv_aload_n X.hx X.hb dX0_put_46 rfl (lv_at hl 0 rfl) ?_
      refine lv_iconst (v := 2) X.hx X.hb dX0_put_47 (by decide) ?_
      refine r_cVI (As := [.int 2]) (rest := []) (C := RX0) (T := TX0) (N := 36) X h hf (fun res hres => wX0_found l Γ ad _ b0 2 res hres) rfl (cwV 1 X.hts (lw_V q347 q349 qs2 q82 q350) rfl rfl rfl (by decide +kernel) ⟨Nat.le_of_ble_eq_true rfl, Nat.le_of_ble_eq_true rfl⟩) rfl ⟨hl.1, Nat.le_of_ble_eq_true rfl, Nat.le_of_ble_eq_true rfl, Nat.le_of_ble_eq_true rfl⟩ rfl dX0_put_48 (fun x8 μ9 H locs hf h => ?_)
      exact r_ri X h hr hlk (Nat.le_of_ble_eq_true rfl) (Nat.le_of_ble_eq_true rfl) dX0_put_51 hf
    refine lv_istore (lv' := [(4, .int x5), (0, .ref (ad b0)), (1, .int a1), (2, .int a2), (3, .int a3)]) X.hx X.hb dX0_put_17 hl (by decide) rfl (fun ls hl => ?_)
    refine lv_aload_n X.hx X.hb dX0_put_19 rfl (lv_at hl 1 rfl) ?_
    refine r_getP X h (ci := 0) (k := 6) (C := RX0) (T := TX0) (N := 36) rfl in_X0 (by decide) q147 rfl dX0_put_20 hf (fun i10 hf => ?_)
    refine lv_iload_n X.hx X.hb dX0_put_23 rfl (lv_at hl 2 rfl) ?_
    refine r_aald X h (t := 4) rfl rfl dX0_put_24 hf (fun o11 hf => ?_)
    refine lv_iload_n X.hx X.hb dX0_put_25 rfl (lv_at hl 3 rfl) ?_
    refine lv_iload_n X.hx X.hb dX0_put_26 rfl (lv_at hl 4 rfl) ?_
    refine lv_i2b X.hx X.hb dX0_put_27 rfl ?_
    refine r_tbast (q := o11) (rest := []) X Y h ⟨hl.1, Nat.le_of_ble_eq_true rfl, Nat.le_of_ble_eq_true rfl, Nat.le_of_ble_eq_true rfl⟩ ⟨Nat.le_of_ble_eq_true rfl, Nat.le_of_ble_eq_true rfl⟩ ⟨0, 9, 35, 126, "java/lang/NullPointerException", rfl, by decide, by decide, by decide, q359, List.contains_iff_mem.mp (by decide +kernel), x_pre0⟩ ⟨1, 9, 35, 128, "java/lang/ArrayIndexOutOfBoundsException", rfl, by decide, by decide, by decide, q384, List.contains_iff_mem.mp (by decide +kernel), (x_preM (name := "java/lang/NullPointerException") (by decide) (by decide) (by decide) q359 (by decide +kernel) x_pre0)⟩ dX0_put_28 hf (fun hf v H locs h => ?_) (fun hf v H locs h => ?_) (fun μ12 H locs hf h => ?_)
    · refine lv_astore (lv' := [(4, .ref v), (0, .ref (ad b0)), (1, .int a1), (2, .int a2), (3, .int a3)]) X.hx X.hb dX0_put_36 hl (by decide) rfl (fun ls hl => ?_)
      replace hl := lv_sub hl [1, 2, 3, 4] rfl
      have hl : lv_has ls 5 [(0, .ref (ad b0)), (1, .int a1), (2, .int a2), (3, .int a3)] := hl
      refine lv_aload_n X.hx X.hb dX0_put_38 rfl (lv_at hl 0 rfl) ?_
      refine lv_iconst (v := 1) X.hx X.hb dX0_put_39 (by decide) ?_
      refine r_cVI (As := [.int 1]) (rest := []) (C := RX0) (T := TX0) (N := 36) X h hf (fun res hres => wX0_found l Γ ad _ b0 1 res hres) rfl (cwV 1 X.hts (lw_V q347 q349 qs2 q82 q350) rfl rfl rfl (by decide +kernel) ⟨Nat.le_of_ble_eq_true rfl, Nat.le_of_ble_eq_true rfl⟩) rfl ⟨hl.1, Nat.le_of_ble_eq_true rfl, Nat.le_of_ble_eq_true rfl, Nat.le_of_ble_eq_true rfl⟩ rfl dX0_put_40 (fun x13 μ14 H locs hf h => ?_)
      exact r_ri X h hr hlk (Nat.le_of_ble_eq_true rfl) (Nat.le_of_ble_eq_true rfl) dX0_put_43 hf
    · refine lv_astore (lv' := [(4, .ref v), (0, .ref (ad b0)), (1, .int a1), (2, .int a2), (3, .int a3)]) X.hx X.hb dX0_put_44 hl (by decide) rfl (fun ls hl => ?_)
      replace hl := lv_sub hl [1, 2, 3, 4] rfl
      have hl : lv_has ls 5 [(0, .ref (ad b0)), (1, .int a1), (2, .int a2), (3, .int a3)] := hl
      refine lv_aload_n X.hx X.hb dX0_put_46 rfl (lv_at hl 0 rfl) ?_
      refine lv_iconst (v := 2) X.hx X.hb dX0_put_47 (by decide) ?_
      refine r_cVI (As := [.int 2]) (rest := []) (C := RX0) (T := TX0) (N := 36) X h hf (fun res hres => wX0_found l Γ ad _ b0 2 res hres) rfl (cwV 1 X.hts (lw_V q347 q349 qs2 q82 q350) rfl rfl rfl (by decide +kernel) ⟨Nat.le_of_ble_eq_true rfl, Nat.le_of_ble_eq_true rfl⟩) rfl ⟨hl.1, Nat.le_of_ble_eq_true rfl, Nat.le_of_ble_eq_true rfl, Nat.le_of_ble_eq_true rfl⟩ rfl dX0_put_48 (fun x15 μ16 H locs hf h => ?_)
      exact r_ri X h hr hlk (Nat.le_of_ble_eq_true rfl) (Nat.le_of_ble_eq_true rfl) dX0_put_51 hf
    refine lv_iload X.hx X.hb dX0_put_29 (lv_at hl 0 rfl) ?_
    refine lv_sipush (v := 1000) X.hx X.hb dX0_put_31 (by decide) ?_
    refine lv_iadd X.hx X.hb dX0_put_34 ?_
    exact r_ri X h hr hlk (Nat.le_of_ble_eq_true rfl) (Nat.le_of_ble_eq_true rfl) dX0_put_35 hf
  · replace hf := gif_t hf hc
    clear hc
    refine lv_iconst (v := (-1)) X.hx X.hb dX0_put_7 (by decide) ?_
    exact r_ri X h hr hlk (Nat.le_of_ble_eq_true rfl) (Nat.le_of_ble_eq_true rfl) dX0_put_8 hf
/-! X0_singsBy -/
def fX0_singsBy (μ0 : gM) (b0 : Nat) (a1 : Int32) : gR := gI (gfld μ0 b0 0 7) fun x1 => some (some (.int ((((1 <<< (a1 &&& 31)) ||| (1 <<< ((a1 + 1) &&& 31))) ||| ((1 <<< (a1 &&& 31)) >>> (1 &&& 31))) &&& ((1 <<< (x1 &&& 31)) - 1))), μ0)
set_option maxHeartbeats 4000000 in
theorem wX0_singsBy (l : Launch) (Γ : gG) (ad : Nat → Nat) (μ0 : gM) (b0 : Nat) (a1 : Int32) (r : Option Value × gM) (hf : fX0_singsBy μ0 b0 a1 = some r) : gMt0 l Γ yX0_singsBy (ws_ yX0_singsBy cX0_singsBy 2 (some .int)) ({ frames := 0, cells := 0, slots := 0, locals := 0 } : Room) 0 0 ad μ0 [.ref (ad b0), .int a1] r := by
  intro sz
  refine g_start (maxL := 2) (ret := (some .int)) (by decide) rfl g_all (Nat.le_of_ble_eq_true rfl) ?_
  intro p e s m below meth c ls hr hlk hnm X h hl
  generalize gA ad μ0 sz = A at X h ⊢
  generalize ([.ref (ad b0), .int a1] : List Value).toArray = args at X ⊢
  have X : gX p m c cX0_singsBy 2 s args "SandPiano" Γ A := X
  have hl : lv_has ls 2 [(0, .ref (ad b0)), (1, .int a1)] := hl
  show W p l e ({ frames := 0, cells := 0, slots := 0, locals := 0 } : Room) s m args below meth c s.heap [] 0 0 (MQ below (gQ0 Γ ad μ0.1 r A) args s 0 0 A) (F0 m 0 ls [])
  unfold fX0_singsBy at hf
  refine lv_iconst (v := 1) X.hx X.hb dX0_singsBy_0 (by decide) ?_
  refine lv_iload_n X.hx X.hb dX0_singsBy_1 rfl (lv_at hl 1 rfl) ?_
  refine lv_ishl X.hx X.hb dX0_singsBy_2 ?_
  refine lv_iconst (v := 1) X.hx X.hb dX0_singsBy_3 (by decide) ?_
  refine lv_iload_n X.hx X.hb dX0_singsBy_4 rfl (lv_at hl 1 rfl) ?_
  refine lv_iconst (v := 1) X.hx X.hb dX0_singsBy_5 (by decide) ?_
  refine lv_iadd X.hx X.hb dX0_singsBy_6 ?_
  refine lv_ishl X.hx X.hb dX0_singsBy_7 ?_
  refine lv_ior X.hx X.hb dX0_singsBy_8 ?_
  refine lv_iconst (v := 1) X.hx X.hb dX0_singsBy_9 (by decide) ?_
  refine lv_iload_n X.hx X.hb dX0_singsBy_10 rfl (lv_at hl 1 rfl) ?_
  refine lv_ishl X.hx X.hb dX0_singsBy_11 ?_
  refine lv_iconst (v := 1) X.hx X.hb dX0_singsBy_12 (by decide) ?_
  refine lv_ishr X.hx X.hb dX0_singsBy_13 ?_
  refine lv_ior X.hx X.hb dX0_singsBy_14 ?_
  refine lv_iconst (v := 1) X.hx X.hb dX0_singsBy_15 (by decide) ?_
  refine lv_aload_n X.hx X.hb dX0_singsBy_16 rfl (lv_at hl 0 rfl) ?_
  refine r_getI X h (ci := 0) (k := 7) (C := RX0) (T := TX0) (N := 36) rfl in_X0 (by decide) q149 rfl dX0_singsBy_17 hf (fun x1 hf => ?_)
  refine lv_ishl X.hx X.hb dX0_singsBy_20 ?_
  refine lv_iconst (v := 1) X.hx X.hb dX0_singsBy_21 (by decide) ?_
  refine lv_isub X.hx X.hb dX0_singsBy_22 ?_
  refine lv_iand X.hx X.hb dX0_singsBy_23 ?_
  exact r_ri X h hr hlk (Nat.le_of_ble_eq_true rfl) (Nat.le_of_ble_eq_true rfl) dX0_singsBy_24 hf
/-! X0_ringSet -/
def fX0_ringSet_L11 (b0 : Nat) (b1 : Nat) : Nat → Int32 → Int32 → gM → gR
  | 0, _, _, _ => none
  | n6 + 1, x3, x4, μ5 => glen μ5 0 b1 fun x7 => if x7 ≤ x4 then (some (some (.int x3), μ5)) else (gaI μ5 0 b1 (x4 + 1) fun x8 => gjn (fun (x9 : Int32) (μ10 : gM) => gnm ((x3 &&& x9)) fun x12 => gnm (x4 + 2) fun x13 => fX0_ringSet_L11 b0 b1 n6 x12 x13 μ10) fun j11 => if x8 = 1 then (gaI μ5 0 b1 x4 fun x17 => gis μ5 b0 0 <| cI (fX0_singsBy μ5 b0 x17) fun x18 μ19 => j11 x18 μ19) else (gaI μ5 0 b1 x4 fun x14 => gis μ5 b0 0 <| cI (fX0_singsBy μ5 b0 x14) fun x15 μ16 => j11 (x15 ^^^ (-1)) μ16))
set_option maxHeartbeats 4000000 in
theorem wX0_ringSet_L11 {p : Program} {e : Env} {s : State} {m : MethodId} {args : Array Value} {below : List Frame} {meth : Method} {c : Code} {Γ : gG} {A : Nat → Prop} {nz : Nat} {ad : Nat → Nat} {r : Option Value × gM} (l : Launch) (b0 : Nat) (b1 : Nat) (X : gX p m c cX0_ringSet 4 s args "SandPiano" Γ A) (hr : meth.sig.returnType = (some .int)) (hlk : meth.locks = false) : ∀ (n6 : Nat) (x3 : Int32) (x4 : Int32) (μ5 : gM) (H : Heap) (locs : List Loc) (ls : Array Slot), fX0_ringSet_L11 b0 b1 n6 x3 x4 μ5 = some r → gWd Γ A nz ad μ5 s.heap H locs → lv_has ls 4 [(0, .ref (ad b0)), (1, .ref (ad b1)), (2, .int x3), (3, .int x4)] → W p l e ({ frames := 1, cells := 0, slots := 0, locals := 21 } : Room) s m args below meth c H locs 0 0 (MQ below (gQ0 Γ ad nz r A) args s 0 0 A) (F0 m 11 ls []) := by
  intro n6
  induction n6 with
  | zero =>
    intro x3 x4 μ5 H locs ls hf h hl
    have hf : (none : gR) = some r := hf
    cases hf
  | succ n6 ih =>
    intro x3 x4 μ5 H locs ls hf h hl
    rw [fX0_ringSet_L11] at hf
    refine lv_iload_n X.hx X.hb dX0_ringSet_11 rfl (lv_at hl 3 rfl) ?_
    refine lv_aload_n X.hx X.hb dX0_ringSet_12 rfl (lv_at hl 1 rfl) ?_
    refine r_len X h (t := 0) rfl dX0_ringSet_13 hf (fun x7 hf => ?_)
    refine lv_icmp_ge (tgt := 54) X.hx X.hb dX0_ringSet_14 (by decide) (fun hc => ?_) (fun hc => ?_)
    · replace hf := gif_t hf hc
      clear hc
      refine lv_iload_n X.hx X.hb dX0_ringSet_54 rfl (lv_at hl 2 rfl) ?_
      exact r_ri X h hr hlk (Nat.le_of_ble_eq_true rfl) (Nat.le_of_ble_eq_true rfl) dX0_ringSet_55 hf
    · replace hf := gif_f hf hc
      clear hc
      refine lv_iload_n X.hx X.hb dX0_ringSet_17 rfl (lv_at hl 2 rfl) ?_
      refine lv_aload_n X.hx X.hb dX0_ringSet_18 rfl (lv_at hl 1 rfl) ?_
      refine lv_iload_n X.hx X.hb dX0_ringSet_19 rfl (lv_at hl 3 rfl) ?_
      refine lv_iconst (v := 1) X.hx X.hb dX0_ringSet_20 (by decide) ?_
      refine lv_iadd X.hx X.hb dX0_ringSet_21 ?_
      refine r_iald X h dX0_ringSet_22 hf (fun x8 hf => ?_)
      refine lv_iconst (v := 1) X.hx X.hb dX0_ringSet_23 (by decide) ?_
      refine r_jn hf (fun j11 ej11 hf => ?_)
      have hj11 : ∀ (x9 : Int32) (μ10 : gM) (H : Heap) (locs : List Loc) (ls : Array Slot), j11 x9 μ10 = some r → gWd Γ A nz ad μ10 s.heap H locs → lv_has ls 4 [(0, .ref (ad b0)), (1, .ref (ad b1)), (3, .int x4)] → W p l e ({ frames := 1, cells := 0, slots := 0, locals := 21 } : Room) s m args below meth c H locs 0 0 (MQ below (gQ0 Γ ad nz r A) args s 0 0 A) (F0 m 46 ls [.int x9, .int x3]) := by
        intro x9 μ10 H locs ls hf h hl
        rw [ej11] at hf
        refine lv_iand X.hx X.hb dX0_ringSet_46 ?_
        refine r_nmI hf (fun x12 hf => ?_)
        refine lv_istore_n (lv' := [(2, .int x12), (0, .ref (ad b0)), (1, .ref (ad b1)), (3, .int x4)]) X.hx X.hb dX0_ringSet_47 rfl hl (by decide) rfl (fun ls hl => ?_)
        refine r_nmk hf (fun x13 ex hf => ?_)
        refine lv_iinc (v := x13) (lv' := [(3, .int x13), (2, .int x12), (0, .ref (ad b0)), (1, .ref (ad b1))]) X.hx X.hb dX0_ringSet_48 hl (k := 3) rfl (by rw [ex]; rfl) (by decide) rfl (fun ls hl => ?_)
        clear ex
        refine lv_goto (tgt := 11) X.hx X.hb dX0_ringSet_51 (by decide) ?_
        exact ih _ _ _ _ _ _ hf h (lv_sub hl [2, 3, 1, 0] rfl)
      clear ej11
      refine lv_icmp_ne (tgt := 37) X.hx X.hb dX0_ringSet_24 (by decide) (fun hc => ?_) (fun hc => ?_)
      · replace hf := gif_f hf hc
        clear hc
        refine lv_aload_n X.hx X.hb dX0_ringSet_37 rfl (lv_at hl 0 rfl) ?_
        refine lv_aload_n X.hx X.hb dX0_ringSet_38 rfl (lv_at hl 1 rfl) ?_
        refine lv_iload_n X.hx X.hb dX0_ringSet_39 rfl (lv_at hl 3 rfl) ?_
        refine r_iald X h dX0_ringSet_40 hf (fun x14 hf => ?_)
        refine r_cVI (As := [.int x14]) (rest := [.int x3]) (C := RX0) (T := TX0) (N := 36) X h hf (fun res hres => wX0_singsBy l Γ ad _ b0 x14 res hres) rfl (cwV 1 X.hts (lw_V q936 q938 qs30 q82 q939) rfl rfl rfl (by decide +kernel) ⟨Nat.le_of_ble_eq_true rfl, Nat.le_of_ble_eq_true rfl⟩) rfl ⟨hl.1, Nat.le_of_ble_eq_true rfl, Nat.le_of_ble_eq_true rfl, Nat.le_of_ble_eq_true rfl⟩ rfl dX0_ringSet_41 (fun x15 μ16 H locs hf h => ?_)
        refine lv_iconst (v := (-1)) X.hx X.hb dX0_ringSet_44 (by decide) ?_
        refine lv_ixor X.hx X.hb dX0_ringSet_45 ?_
        exact hj11 _ _ _ _ _ hf h (lv_sub hl [0, 1, 3] rfl)
      · replace hf := gif_t hf hc
        clear hc
        refine lv_aload_n X.hx X.hb dX0_ringSet_27 rfl (lv_at hl 0 rfl) ?_
        refine lv_aload_n X.hx X.hb dX0_ringSet_28 rfl (lv_at hl 1 rfl) ?_
        refine lv_iload_n X.hx X.hb dX0_ringSet_29 rfl (lv_at hl 3 rfl) ?_
        refine r_iald X h dX0_ringSet_30 hf (fun x17 hf => ?_)
        refine r_cVI (As := [.int x17]) (rest := [.int x3]) (C := RX0) (T := TX0) (N := 36) X h hf (fun res hres => wX0_singsBy l Γ ad _ b0 x17 res hres) rfl (cwV 1 X.hts (lw_V q936 q938 qs30 q82 q939) rfl rfl rfl (by decide +kernel) ⟨Nat.le_of_ble_eq_true rfl, Nat.le_of_ble_eq_true rfl⟩) rfl ⟨hl.1, Nat.le_of_ble_eq_true rfl, Nat.le_of_ble_eq_true rfl, Nat.le_of_ble_eq_true rfl⟩ rfl dX0_ringSet_31 (fun x18 μ19 H locs hf h => ?_)
        refine lv_goto (tgt := 46) X.hx X.hb dX0_ringSet_34 (by decide) ?_
        exact hj11 _ _ _ _ _ hf h (lv_sub hl [0, 1, 3] rfl)
def fX0_ringSet (μ0 : gM) (b0 : Nat) (b1 : Nat) : gR := gI (gfld μ0 b0 0 7) fun x1 => gnm (((1 <<< (x1 &&& 31)) - 1)) fun x2 => fX0_ringSet_L11 b0 b1 10000 x2 0 μ0
set_option maxHeartbeats 4000000 in
theorem wX0_ringSet (l : Launch) (Γ : gG) (ad : Nat → Nat) (μ0 : gM) (b0 : Nat) (b1 : Nat) (r : Option Value × gM) (hf : fX0_ringSet μ0 b0 b1 = some r) : gMt0 l Γ yX0_ringSet (ws_ yX0_ringSet cX0_ringSet 4 (some .int)) ({ frames := 1, cells := 0, slots := 0, locals := 21 } : Room) 0 0 ad μ0 [.ref (ad b0), .ref (ad b1)] r := by
  intro sz
  refine g_start (maxL := 4) (ret := (some .int)) (by decide) rfl g_all (Nat.le_of_ble_eq_true rfl) ?_
  intro p e s m below meth c ls hr hlk hnm X h hl
  generalize gA ad μ0 sz = A at X h ⊢
  generalize ([.ref (ad b0), .ref (ad b1)] : List Value).toArray = args at X ⊢
  have X : gX p m c cX0_ringSet 4 s args "SandPiano" Γ A := X
  have hl : lv_has ls 4 [(0, .ref (ad b0)), (1, .ref (ad b1))] := hl
  show W p l e ({ frames := 1, cells := 0, slots := 0, locals := 21 } : Room) s m args below meth c s.heap [] 0 0 (MQ below (gQ0 Γ ad μ0.1 r A) args s 0 0 A) (F0 m 0 ls [])
  unfold fX0_ringSet at hf
  refine lv_iconst (v := 1) X.hx X.hb dX0_ringSet_0 (by decide) ?_
  refine lv_aload_n X.hx X.hb dX0_ringSet_1 rfl (lv_at hl 0 rfl) ?_
  refine r_getI X h (ci := 0) (k := 7) (C := RX0) (T := TX0) (N := 36) rfl in_X0 (by decide) q149 rfl dX0_ringSet_2 hf (fun x1 hf => ?_)
  refine lv_ishl X.hx X.hb dX0_ringSet_5 ?_
  refine lv_iconst (v := 1) X.hx X.hb dX0_ringSet_6 (by decide) ?_
  refine lv_isub X.hx X.hb dX0_ringSet_7 ?_
  refine r_nmI hf (fun x2 hf => ?_)
  refine lv_istore_n (lv' := [(2, .int x2), (0, .ref (ad b0)), (1, .ref (ad b1))]) X.hx X.hb dX0_ringSet_8 rfl hl (by decide) rfl (fun ls hl => ?_)
  refine lv_iconst (v := 0) X.hx X.hb dX0_ringSet_9 (by decide) ?_
  refine lv_istore_n (lv' := [(3, .int 0), (2, .int x2), (0, .ref (ad b0)), (1, .ref (ad b1))]) X.hx X.hb dX0_ringSet_10 rfl hl (by decide) rfl (fun ls hl => ?_)
  refine wX0_ringSet_L11 l b0 b1 X hr hlk 10000 _ _ _ _ _ _ hf h (lv_sub hl [2, 3, 1, 0] rfl)
/-! X0_ring -/
def fX0_ring (μ0 : gM) (b0 : Nat) (a1 : Int32) : gR := cI (fX0_isRow μ0 a1) fun x1 μ2 => if x1 = 0 then (some (some (.int (-1)), μ2)) else (gis μ2 b0 0 <| cI (fX0_askedSong μ2 b0 a1) fun x3 μ4 => if 0 ≤ x3 then (gP (gfld μ4 b0 0 5) fun i5 => gaQ μ4 3 i5 a1 fun o6 => gnn o6 fun i7 => gis μ4 b0 0 <| cI (fX0_ringSet μ4 b0 i7) fun x8 μ9 => some (some (.int x8), μ9)) else (some (some (.int x3), μ4)))
set_option maxHeartbeats 4000000 in
theorem wX0_ring (l : Launch) (Γ : gG) (ad : Nat → Nat) (μ0 : gM) (b0 : Nat) (a1 : Int32) (r : Option Value × gM) (hf : fX0_ring μ0 b0 a1 = some r) : gMt0 l Γ yX0_ring (ws_ yX0_ring cX0_ring 3 (some .int)) ({ frames := 3, cells := 0, slots := 0, locals := 66 } : Room) 0 0 ad μ0 [.ref (ad b0), .int a1] r := by
  intro sz
  refine g_start (maxL := 3) (ret := (some .int)) (by decide) rfl g_all (Nat.le_of_ble_eq_true rfl) ?_
  intro p e s m below meth c ls hr hlk hnm X h hl
  generalize gA ad μ0 sz = A at X h ⊢
  generalize ([.ref (ad b0), .int a1] : List Value).toArray = args at X ⊢
  have X : gX p m c cX0_ring 3 s args "SandPiano" Γ A := X
  have hl : lv_has ls 3 [(0, .ref (ad b0)), (1, .int a1)] := hl
  show W p l e ({ frames := 3, cells := 0, slots := 0, locals := 66 } : Room) s m args below meth c s.heap [] 0 0 (MQ below (gQ0 Γ ad μ0.1 r A) args s 0 0 A) (F0 m 0 ls [])
  unfold fX0_ring at hf
  refine lv_iload_n X.hx X.hb dX0_ring_0 rfl (lv_at hl 1 rfl) ?_
  refine r_cSI (As := [.int a1]) (rest := []) X h hf (fun res hres => wX0_isRow l Γ ad _ a1 res hres) (va_cwS 1 X.hts (lw_S q341 q342 q82 q343) rfl rfl rfl (by decide +kernel) ⟨Nat.le_of_ble_eq_true rfl, Nat.le_of_ble_eq_true rfl⟩) rfl ⟨hl.1, Nat.le_of_ble_eq_true rfl, Nat.le_of_ble_eq_true rfl, Nat.le_of_ble_eq_true rfl⟩ rfl dX0_ring_1 (fun x1 μ2 H locs hf h => ?_)
  refine lv_if_ne (tgt := 9) X.hx X.hb dX0_ring_4 (by decide) (fun hc => ?_) (fun hc => ?_)
  · replace hf := gif_f hf hc
    clear hc
    refine lv_aload_n X.hx X.hb dX0_ring_9 rfl (lv_at hl 0 rfl) ?_
    refine lv_iload_n X.hx X.hb dX0_ring_10 rfl (lv_at hl 1 rfl) ?_
    refine r_cVI (As := [.int a1]) (rest := []) (C := RX0) (T := TX0) (N := 36) X h hf (fun res hres => wX0_askedSong l Γ ad _ b0 a1 res hres) rfl (cwV 1 X.hts (lw_V q928 q930 qs28 q82 q931) rfl rfl rfl (by decide +kernel) ⟨Nat.le_of_ble_eq_true rfl, Nat.le_of_ble_eq_true rfl⟩) rfl ⟨hl.1, Nat.le_of_ble_eq_true rfl, Nat.le_of_ble_eq_true rfl, Nat.le_of_ble_eq_true rfl⟩ rfl dX0_ring_11 (fun x3 μ4 H locs hf h => ?_)
    refine lv_istore_n (lv' := [(2, .int x3), (0, .ref (ad b0)), (1, .int a1)]) X.hx X.hb dX0_ring_14 rfl hl (by decide) rfl (fun ls hl => ?_)
    refine lv_iload_n X.hx X.hb dX0_ring_15 rfl (lv_at hl 0 rfl) ?_
    refine lv_if_ge (tgt := 23) X.hx X.hb dX0_ring_16 (by decide) (fun hc => ?_) (fun hc => ?_)
    · replace hf := gif_t hf hc
      clear hc
      refine lv_aload_n X.hx X.hb dX0_ring_23 rfl (lv_at hl 1 rfl) ?_
      refine lv_aload_n X.hx X.hb dX0_ring_24 rfl (lv_at hl 1 rfl) ?_
      refine r_getP X h (ci := 0) (k := 5) (C := RX0) (T := TX0) (N := 36) rfl in_X0 (by decide) q146 rfl dX0_ring_25 hf (fun i5 hf => ?_)
      refine lv_iload_n X.hx X.hb dX0_ring_28 rfl (lv_at hl 2 rfl) ?_
      refine r_aald X h (t := 3) rfl rfl dX0_ring_29 hf (fun o6 hf => ?_)
      refine r_nn hf (fun i7 hf => ?_)
      refine r_cVI (As := [.ref (ad i7)]) (rest := []) (C := RX0) (T := TX0) (N := 36) X h hf (fun res hres => wX0_ringSet l Γ ad _ b0 i7 res hres) rfl (cwV 1 X.hts (lw_V q932 q934 qs29 q82 q935) rfl rfl rfl (by decide +kernel) ⟨Nat.le_of_ble_eq_true rfl, Nat.le_of_ble_eq_true rfl⟩) rfl ⟨hl.1, Nat.le_of_ble_eq_true rfl, Nat.le_of_ble_eq_true rfl, Nat.le_of_ble_eq_true rfl⟩ rfl dX0_ring_30 (fun x8 μ9 H locs hf h => ?_)
      exact r_ri X h hr hlk (Nat.le_of_ble_eq_true rfl) (Nat.le_of_ble_eq_true rfl) dX0_ring_33 hf
    · replace hf := gif_f hf hc
      clear hc
      refine lv_iload_n X.hx X.hb dX0_ring_19 rfl (lv_at hl 0 rfl) ?_
      refine lv_goto (tgt := 33) X.hx X.hb dX0_ring_20 (by decide) ?_
      exact r_ri X h hr hlk (Nat.le_of_ble_eq_true rfl) (Nat.le_of_ble_eq_true rfl) dX0_ring_33 hf
  · replace hf := gif_t hf hc
    clear hc
    refine lv_iconst (v := (-1)) X.hx X.hb dX0_ring_7 (by decide) ?_
    exact r_ri X h hr hlk (Nat.le_of_ble_eq_true rfl) (Nat.le_of_ble_eq_true rfl) dX0_ring_8 hf
/-! X0_row -/
def fX0_row (μ0 : gM) (b0 : Nat) (a1 : Int32) (a2 : Int32) : gR := cI (fX0_isRow μ0 a1) fun x1 μ2 => if x1 = 0 then (some (some (.int (-1)), μ2)) else (if a2 ≤ 40 then (gP (gfld μ2 b0 0 5) fun i3 => glv μ2 b0 <| glv μ2 i3 <| tna μ2 0 40 a2 (gis μ2 b0 0 <| cI (fX0_found μ2 b0 5) fun x7 μ8 => some (some (.int x7), μ8)) fun μ5 i6 => gha μ5 0 i6 <| gsQ μ5 3 i3 a1 (some i6) fun μ9 => some (some (.int a2), μ9)) else (some (some (.int (-1)), μ2)))
set_option maxHeartbeats 4000000 in
theorem wX0_row (l : Launch) (Γ : gG) (hst : l.stackTraces = false) (ad : Nat → Nat) (μ0 : gM) (b0 : Nat) (a1 : Int32) (a2 : Int32) (r : Option Value × gM) (hf : fX0_row μ0 b0 a1 a2 = some r) : gMtE1 l Γ yX0_row (wsW_ yX0_row cX0_row 4 (some .int) [(15, 25, 26, 113)]) ({ frames := 9, cells := 3, slots := 54, locals := 10248 } : Room) 3 54 ad μ0 [.ref (ad b0), .int a1, .int a2] r := by
  intro sz
  refine g_startW hst (maxL := 4) (ret := (some .int)) (by decide) rfl g_allW (Nat.le_of_ble_eq_true rfl) ?_
  intro p e s m below meth c ls hr hlk hnm X Y h hl
  generalize gA ad μ0 sz = A at X Y h ⊢
  generalize ([.ref (ad b0), .int a1, .int a2] : List Value).toArray = args at X ⊢
  have X : gX p m c cX0_row 4 s args "SandPiano" Γ A := X
  have hl : lv_has ls 4 [(0, .ref (ad b0)), (1, .int a1), (2, .int a2)] := hl
  show W p l e ({ frames := 9, cells := 3, slots := 54, locals := 10248 } : Room) s m args below meth c s.heap [] 0 0 (MQ below (gQ1 Γ ad μ0.1 r A) args s 3 54 A) (F0 m 0 ls [])
  unfold fX0_row at hf
  have hag : ∀ i, i < μ0.1 → ad i = ad i := fun _ _ => rfl
  refine lv_iload_n X.hx X.hb dX0_row_0 rfl (lv_at hl 1 rfl) ?_
  refine r_cSI (As := [.int a1]) (rest := []) X h hf (fun res hres => wX0_isRow l Γ ad _ a1 res hres) (va_cwS 1 X.hts (lw_S q341 q342 q82 q343) rfl rfl rfl (by decide +kernel) ⟨Nat.le_of_ble_eq_true rfl, Nat.le_of_ble_eq_true rfl⟩) rfl ⟨hl.1, Nat.le_of_ble_eq_true rfl, Nat.le_of_ble_eq_true rfl, Nat.le_of_ble_eq_true rfl⟩ rfl dX0_row_1 (fun x1 μ2 H locs hf h => ?_)
  refine lv_if_eq (tgt := 13) X.hx X.hb dX0_row_4 (by decide) (fun hc => ?_) (fun hc => ?_)
  · replace hf := gif_t hf hc
    clear hc
    refine lv_iconst (v := (-1)) X.hx X.hb dX0_row_13 (by decide) ?_
    exact r_ri1 X h hag hr hlk (Nat.le_of_ble_eq_true rfl) (Nat.le_of_ble_eq_true rfl) dX0_row_14 hf
  · replace hf := gif_f hf hc
    clear hc
    refine lv_iload_n X.hx X.hb dX0_row_7 rfl (lv_at hl 2 rfl) ?_
    refine lv_bipush (v := 40) X.hx X.hb dX0_row_8 (by decide) ?_
    refine lv_icmp_le (tgt := 15) X.hx X.hb dX0_row_10 (by decide) (fun hc => ?_) (fun hc => ?_)
    · replace hf := gif_t hf hc
      clear hc
      refine lv_aload_n X.hx X.hb dX0_row_15 rfl (lv_at hl 0 rfl) ?_
      refine r_getP X h (ci := 0) (k := 5) (C := RX0) (T := TX0) (N := 36) rfl in_X0 (by decide) q146 rfl dX0_row_16 hf (fun i3 hf => ?_)
      refine lv_iload_n X.hx X.hb dX0_row_19 rfl (lv_at hl 1 rfl) ?_
      refine lv_iload_n X.hx X.hb dX0_row_20 rfl (lv_at hl 2 rfl) ?_
      obtain ⟨⟨ek0, hek0⟩, hf⟩ := glv_some hf
      have hlt0 := (h.1 _ _ hek0).1
      clear hek0 ek0
      obtain ⟨⟨ek1, hek1⟩, hf⟩ := glv_some hf
      have hlt1 := (h.1 _ _ hek1).1
      clear hek1 ek1
      have hle := h.2.2.2
      refine r_tnewI (rest := [.int a1, .ref (ad i3)]) X Y h (lim := 40) ⟨hl.1, Nat.le_of_ble_eq_true rfl, Nat.le_of_ble_eq_true rfl, Nat.le_of_ble_eq_true rfl⟩ ⟨Nat.le_of_ble_eq_true rfl, Nat.le_of_ble_eq_true rfl⟩ ⟨0, 15, 25, 113, "java/lang/NegativeArraySizeException", rfl, by decide, by decide, by decide, q255, List.contains_iff_mem.mp (by decide +kernel), x_pre0⟩ (Nat.le_of_ble_eq_true rfl) (Nat.le_of_ble_eq_true rfl) dX0_row_21 hf (fun hf v H locs h => ?_) (fun ad4 i6 μ5 H locs hf hag1 h => ?_)
      · refine lv_astore_n (lv' := [(3, .ref v), (0, .ref (ad b0)), (1, .int a1), (2, .int a2)]) X.hx X.hb dX0_row_26 rfl hl (by decide) rfl (fun ls hl => ?_)
        replace hl := lv_sub hl [1, 2, 3] rfl
        have hl : lv_has ls 4 [(0, .ref (ad b0)), (1, .int a1), (2, .int a2)] := hl
        refine lv_aload_n X.hx X.hb dX0_row_27 rfl (lv_at hl 0 rfl) ?_
        refine lv_iconst (v := 5) X.hx X.hb dX0_row_28 (by decide) ?_
        refine r_cVI (As := [.int 5]) (rest := []) (C := RX0) (T := TX0) (N := 36) X h hf (fun res hres => wX0_found l Γ ad _ b0 5 res hres) rfl (cwV 1 X.hts (lw_V q347 q349 qs2 q82 q350) rfl rfl rfl (by decide +kernel) ⟨Nat.le_of_ble_eq_true rfl, Nat.le_of_ble_eq_true rfl⟩) rfl ⟨hl.1, Nat.le_of_ble_eq_true rfl, Nat.le_of_ble_eq_true rfl, Nat.le_of_ble_eq_true rfl⟩ rfl dX0_row_29 (fun x7 μ8 H locs hf h => ?_)
        exact r_ri1 X h hag hr hlk (Nat.le_of_ble_eq_true rfl) (Nat.le_of_ble_eq_true rfl) dX0_row_32 hf
      replace hl : lv_has ls 4 [(0, .ref (ad4 b0)), (1, .int a1), (2, .int a2)] := by rw [hag1 b0 hlt0]; exact hl
      replace hag : ∀ i, i < μ0.1 → ad4 i = ad i := fun i hi => (hag1 i (Nat.lt_of_lt_of_le hi hle)).trans (hag i hi)
      refine W.eq (g2 := F0 m 23 ls [.ref (ad4 i6), .int a1, .ref (ad4 i3)]) (by rw [hag1 i3 hlt1]) ?_
      clear hag1 hle hlt0 hlt1
      obtain ⟨⟨n0, f0, hv⟩, hf⟩ := gha_some hf
      refine r_astI X h hv dX0_row_23 hf (fun μ9 H locs hf h => ?_)
      refine lv_iload_n X.hx X.hb dX0_row_24 rfl (lv_at hl 2 rfl) ?_
      exact r_ri1 X h hag hr hlk (Nat.le_of_ble_eq_true rfl) (Nat.le_of_ble_eq_true rfl) dX0_row_25 hf
    · replace hf := gif_f hf hc
      clear hc
      refine lv_iconst (v := (-1)) X.hx X.hb dX0_row_13 (by decide) ?_
      exact r_ri1 X h hag hr hlk (Nat.le_of_ble_eq_true rfl) (Nat.le_of_ble_eq_true rfl) dX0_row_14 hf
/-! X0_rowsOn -/
def fX0_rowsOn_L67 (rec : gM → Nat → Int32 → Int32 → gR) (b0 : Nat) (a1 : Int32) (a2 : Int32) : Nat → Int32 → gM → gR
  | 0, _, _ => none
  | n3 + 1, x1, μ2 => gI (gfld μ2 b0 0 7) fun x4 => if x4 ≤ x1 then (some (none, μ2)) else (gP (gfld μ2 b0 0 9) fun i5 => gaQ μ2 5 i5 x1 fun o6 => gnn o6 fun i7 => gP (gfld μ2 b0 0 25) fun i8 => gaQ μ2 7 i8 a1 fun o9 => gnn o9 fun i10 => cI (vX3_plays μ2 i7 i10) fun x11 μ12 => gjn (fun  (μ13 : gM) => gnm (x1 + 1) fun x15 => fX0_rowsOn_L67 rec b0 a1 a2 n3 x15 μ13) fun j14 => if x11 = 0 then (j14 μ12) else (gis μ12 b0 0 <| cV (fX0_goDeep μ12 b0 a1 x1) fun μ16 => gis μ16 b0 0 <| cV (rec μ16 b0 (a1 + 1) a2) fun μ17 => j14 μ17))
set_option maxHeartbeats 4000000 in
theorem wX0_rowsOn_L67 {p : Program} {e : Env} {s : State} {m : MethodId} {args : Array Value} {below : List Frame} {meth : Method} {c : Code} {Γ : gG} {A : Nat → Prop} {nz : Nat} {ad : Nat → Nat} {r : Option Value × gM} (l : Launch) (dd : Nat) (rec : gM → Nat → Int32 → Int32 → gR) (b0 : Nat) (a1 : Int32) (a2 : Int32) (X : gX p m c cX0_rowsOn 4 s args "SandPiano" Γ A) (hr : meth.sig.returnType = none) (hlk : meth.locks = false) (hrec : ∀ (ad : Nat → Nat) (μ : gM) (b0 : Nat) (a1 : Int32) (a2 : Int32) (r : Option Value × gM), rec μ b0 a1 a2 = some r → gMt0 l Γ yX0_rowsOn (ws_ yX0_rowsOn cX0_rowsOn 4 none) ({ frames := 5 + dd, cells := 0, slots := 0, locals := 111 + dd * 23 } : Room) 0 0 ad μ [.ref (ad b0), .int a1, .int a2] r) : ∀ (n3 : Nat) (x1 : Int32) (μ2 : gM) (H : Heap) (locs : List Loc) (ls : Array Slot), fX0_rowsOn_L67 rec b0 a1 a2 n3 x1 μ2 = some r → gWd Γ A nz ad μ2 s.heap H locs → lv_has ls 4 [(0, .ref (ad b0)), (1, .int a1), (2, .int a2), (3, .int x1)] → W p l e ({ frames := 5 + (dd + 1), cells := 0, slots := 0, locals := 111 + (dd + 1) * 23 } : Room) s m args below meth c H locs 0 0 (MQ below (gQ0 Γ ad nz r A) args s 0 0 A) (F0 m 67 ls []) := by
  intro n3
  induction n3 with
  | zero =>
    intro x1 μ2 H locs ls hf h hl
    have hf : (none : gR) = some r := hf
    cases hf
  | succ n3 ih =>
    intro x1 μ2 H locs ls hf h hl
    rw [fX0_rowsOn_L67] at hf
    refine lv_iload_n X.hx X.hb dX0_rowsOn_67 rfl (lv_at hl 3 rfl) ?_
    refine lv_aload_n X.hx X.hb dX0_rowsOn_68 rfl (lv_at hl 0 rfl) ?_
    refine r_getI X h (ci := 0) (k := 7) (C := RX0) (T := TX0) (N := 36) rfl in_X0 (by decide) q149 rfl dX0_rowsOn_69 hf (fun x4 hf => ?_)
    refine lv_icmp_ge (tgt := 113) X.hx X.hb dX0_rowsOn_72 (by decide) (fun hc => ?_) (fun hc => ?_)
    · replace hf := gif_t hf hc
      clear hc
      exact r_rv X h hr hlk ((by first | exact Nat.le_of_ble_eq_true rfl | omega | (dsimp only; omega))) ((by first | exact Nat.le_of_ble_eq_true rfl | omega | (dsimp only; omega))) dX0_rowsOn_113 hf
    · replace hf := gif_f hf hc
      clear hc
      refine lv_aload_n X.hx X.hb dX0_rowsOn_75 rfl (lv_at hl 0 rfl) ?_
      refine r_getP X h (ci := 0) (k := 9) (C := RX0) (T := TX0) (N := 36) rfl in_X0 (by decide) q151 rfl dX0_rowsOn_76 hf (fun i5 hf => ?_)
      refine lv_iload_n X.hx X.hb dX0_rowsOn_79 rfl (lv_at hl 3 rfl) ?_
      refine r_aald X h (t := 5) rfl rfl dX0_rowsOn_80 hf (fun o6 hf => ?_)
      refine r_nn hf (fun i7 hf => ?_)
      refine lv_aload_n X.hx X.hb dX0_rowsOn_81 rfl (lv_at hl 0 rfl) ?_
      refine r_getP X h (ci := 0) (k := 25) (C := RX0) (T := TX0) (N := 36) rfl in_X0 (by decide) q167 rfl dX0_rowsOn_82 hf (fun i8 hf => ?_)
      refine lv_iload_n X.hx X.hb dX0_rowsOn_85 rfl (lv_at hl 1 rfl) ?_
      refine r_aald X h (t := 7) rfl rfl dX0_rowsOn_86 hf (fun o9 hf => ?_)
      refine r_nn hf (fun i10 hf => ?_)
      refine wvX3_plays X h q597 ((by first | exact Nat.le_of_ble_eq_true rfl | omega | (dsimp only; omega))) ((by first | exact Nat.le_of_ble_eq_true rfl | omega | (dsimp only; omega))) (rest := []) ⟨hl.1, Nat.le_of_ble_eq_true rfl, (by first | exact Nat.le_of_ble_eq_true rfl | omega | (dsimp only; omega)), (by first | exact Nat.le_of_ble_eq_true rfl | omega | (dsimp only; omega))⟩ rfl dX0_rowsOn_87 hf (fun x11 μ12 H locs hf h => ?_)
      refine r_jn hf (fun j14 ej14 hf => ?_)
      have hj14 : ∀  (μ13 : gM) (H : Heap) (locs : List Loc) (ls : Array Slot), j14  μ13 = some r → gWd Γ A nz ad μ13 s.heap H locs → lv_has ls 4 [(0, .ref (ad b0)), (1, .int a1), (2, .int a2), (3, .int x1)] → W p l e ({ frames := 5 + (dd + 1), cells := 0, slots := 0, locals := 111 + (dd + 1) * 23 } : Room) s m args below meth c H locs 0 0 (MQ below (gQ0 Γ ad nz r A) args s 0 0 A) (F0 m 107 ls []) := by
        intro μ13 H locs ls hf h hl
        rw [ej14] at hf
        refine r_nmk hf (fun x15 ex hf => ?_)
        refine lv_iinc (v := x15) (lv' := [(3, .int x15), (0, .ref (ad b0)), (1, .int a1), (2, .int a2)]) X.hx X.hb dX0_rowsOn_107 hl (k := 3) rfl (by rw [ex]; rfl) (by decide) rfl (fun ls hl => ?_)
        clear ex
        refine lv_goto (tgt := 67) X.hx X.hb dX0_rowsOn_110 (by decide) ?_
        exact ih _ _ _ _ _ hf h (lv_sub hl [1, 2, 3, 0] rfl)
      clear ej14
      refine lv_if_eq (tgt := 107) X.hx X.hb dX0_rowsOn_90 (by decide) (fun hc => ?_) (fun hc => ?_)
      · replace hf := gif_t hf hc
        clear hc
        exact hj14 _ _ _ _ hf h (lv_sub hl [0, 1, 2, 3] rfl)
      · replace hf := gif_f hf hc
        clear hc
        refine lv_aload_n X.hx X.hb dX0_rowsOn_93 rfl (lv_at hl 0 rfl) ?_
        refine lv_iload_n X.hx X.hb dX0_rowsOn_94 rfl (lv_at hl 1 rfl) ?_
        refine lv_iload_n X.hx X.hb dX0_rowsOn_95 rfl (lv_at hl 3 rfl) ?_
        refine r_cVV (As := [.int a1, .int x1]) (rest := []) (C := RX0) (T := TX0) (N := 36) X h hf (fun res hres => wX0_goDeep l Γ ad _ b0 a1 x1 res hres) rfl (cwV 2 X.hts (lw_V q888 q890 qs22 q82 q891) rfl rfl rfl (by decide +kernel) ⟨(by first | exact Nat.le_of_ble_eq_true rfl | omega | (dsimp only; omega)), (by first | exact Nat.le_of_ble_eq_true rfl | omega | (dsimp only; omega))⟩) rfl ⟨hl.1, Nat.le_of_ble_eq_true rfl, (by first | exact Nat.le_of_ble_eq_true rfl | omega | (dsimp only; omega)), (by first | exact Nat.le_of_ble_eq_true rfl | omega | (dsimp only; omega))⟩ rfl dX0_rowsOn_96 (fun μ16 H locs hf h => ?_)
        refine lv_aload_n X.hx X.hb dX0_rowsOn_99 rfl (lv_at hl 0 rfl) ?_
        refine lv_iload_n X.hx X.hb dX0_rowsOn_100 rfl (lv_at hl 1 rfl) ?_
        refine lv_iconst (v := 1) X.hx X.hb dX0_rowsOn_101 (by decide) ?_
        refine lv_iadd X.hx X.hb dX0_rowsOn_102 ?_
        refine lv_iload_n X.hx X.hb dX0_rowsOn_103 rfl (lv_at hl 2 rfl) ?_
        refine r_cVV (As := [.int (a1 + 1), .int a2]) (rest := []) (C := RX0) (T := TX0) (N := 36) X h hf (fun res hres => hrec ad _ b0 (a1 + 1) a2 res hres) rfl (cwV 2 X.hts (lw_V q904 q906 qs24 q82 q907) rfl rfl rfl (by decide +kernel) ⟨(by first | exact Nat.le_of_ble_eq_true rfl | omega | (dsimp only; omega)), (by first | exact Nat.le_of_ble_eq_true rfl | omega | (dsimp only; omega))⟩) rfl ⟨hl.1, Nat.le_of_ble_eq_true rfl, (by first | exact Nat.le_of_ble_eq_true rfl | omega | (dsimp only; omega)), (by first | exact Nat.le_of_ble_eq_true rfl | omega | (dsimp only; omega))⟩ rfl dX0_rowsOn_104 (fun μ17 H locs hf h => ?_)
        exact hj14 _ _ _ _ hf h (lv_sub hl [0, 1, 2, 3] rfl)
def fX0_rowsOn_B (rec : gM → Nat → Int32 → Int32 → gR) (μ0 : gM) (b0 : Nat) (a1 : Int32) (a2 : Int32) : gR := if a1 = a2 then (gI (gfld μ0 b0 0 32) fun x18 => gpf μ0 b0 0 32 (.int (x18 + 1)) fun μ19 => gP (gfld μ19 b0 0 25) fun i20 => gaQ μ19 7 i20 a1 fun o21 => gnn o21 fun i22 => gis μ19 b0 0 <| cI (fX0_isLeft μ19 b0 i22) fun x23 μ24 => if x23 = 0 then (gP (gfld μ24 b0 0 25) fun i25 => gaQ μ24 7 i25 a1 fun o26 => gnn o26 fun i27 => gP (gfld μ24 i27 1 0) fun i28 => gP (gfld μ24 b0 0 30) fun i29 => gI (gfld μ24 b0 0 31) fun x30 => gcp μ24 i28 0 i29 (6 * x30) 6 fun μ31 => gI (gfld μ31 b0 0 31) fun x32 => gpf μ31 b0 0 31 (.int (x32 + 1)) fun μ33 => some (none, μ33)) else (some (none, μ24))) else (fX0_rowsOn_L67 rec b0 a1 a2 10000 0 μ0)
set_option maxHeartbeats 4000000 in
theorem wX0_rowsOn_B (l : Launch) (Γ : gG) (dd : Nat) (rec : gM → Nat → Int32 → Int32 → gR) (hrec : ∀ (ad : Nat → Nat) (μ : gM) (b0 : Nat) (a1 : Int32) (a2 : Int32) (r : Option Value × gM), rec μ b0 a1 a2 = some r → gMt0 l Γ yX0_rowsOn (ws_ yX0_rowsOn cX0_rowsOn 4 none) ({ frames := 5 + dd, cells := 0, slots := 0, locals := 111 + dd * 23 } : Room) 0 0 ad μ [.ref (ad b0), .int a1, .int a2] r) (ad : Nat → Nat) (μ0 : gM) (b0 : Nat) (a1 : Int32) (a2 : Int32) (r : Option Value × gM) (hf : fX0_rowsOn_B rec μ0 b0 a1 a2 = some r) : gMt0 l Γ yX0_rowsOn (ws_ yX0_rowsOn cX0_rowsOn 4 none) ({ frames := 5 + (dd + 1), cells := 0, slots := 0, locals := 111 + (dd + 1) * 23 } : Room) 0 0 ad μ0 [.ref (ad b0), .int a1, .int a2] r := by
  intro sz
  refine g_start (maxL := 4) (ret := none) (by decide) rfl g_all (Nat.le_of_ble_eq_true rfl) ?_
  intro p e s m below meth c ls hr hlk hnm X h hl
  generalize gA ad μ0 sz = A at X h ⊢
  generalize ([.ref (ad b0), .int a1, .int a2] : List Value).toArray = args at X ⊢
  have X : gX p m c cX0_rowsOn 4 s args "SandPiano" Γ A := X
  have hl : lv_has ls 4 [(0, .ref (ad b0)), (1, .int a1), (2, .int a2)] := hl
  show W p l e ({ frames := 5 + (dd + 1), cells := 0, slots := 0, locals := 111 + (dd + 1) * 23 } : Room) s m args below meth c s.heap [] 0 0 (MQ below (gQ0 Γ ad μ0.1 r A) args s 0 0 A) (F0 m 0 ls [])
  unfold fX0_rowsOn_B at hf
  refine lv_iload_n X.hx X.hb dX0_rowsOn_0 rfl (lv_at hl 1 rfl) ?_
  refine lv_iload_n X.hx X.hb dX0_rowsOn_1 rfl (lv_at hl 2 rfl) ?_
  refine lv_icmp_ne (tgt := 65) X.hx X.hb dX0_rowsOn_2 (by decide) (fun hc => ?_) (fun hc => ?_)
  · replace hf := gif_f hf hc
    clear hc
    refine lv_iconst (v := 0) X.hx X.hb dX0_rowsOn_65 (by decide) ?_
    refine lv_istore_n (lv' := [(3, .int 0), (0, .ref (ad b0)), (1, .int a1), (2, .int a2)]) X.hx X.hb dX0_rowsOn_66 rfl hl (by decide) rfl (fun ls hl => ?_)
    refine wX0_rowsOn_L67 l _ rec b0 a1 a2 X hr hlk hrec 10000 _ _ _ _ _ hf h (lv_sub hl [1, 2, 3, 0] rfl)
  · replace hf := gif_t hf hc
    clear hc
    refine lv_aload_n X.hx X.hb dX0_rowsOn_5 rfl (lv_at hl 0 rfl) ?_
    refine lv_dup X.hx X.hb dX0_rowsOn_6 rfl ?_
    refine r_getI X h (ci := 0) (k := 32) (C := RX0) (T := TX0) (N := 36) rfl in_X0 (by decide) q174 rfl dX0_rowsOn_7 hf (fun x18 hf => ?_)
    refine lv_iconst (v := 1) X.hx X.hb dX0_rowsOn_10 (by decide) ?_
    refine lv_iadd X.hx X.hb dX0_rowsOn_11 ?_
    refine r_put X h (ci := 0) (k := 32) (C := RX0) (T := TX0) (N := 36) (ty0 := tyX0) (ty := .int) (v := .int (x18 + 1)) rfl in_X0 tyX0_ok nmX0 (by decide) q174 rfl rfl (by decide +kernel) rfl rfl (fun j hj => by cases hj) dX0_rowsOn_12 hf (fun μ19 H locs hf h => ?_)
    refine lv_aload_n X.hx X.hb dX0_rowsOn_15 rfl (lv_at hl 0 rfl) ?_
    refine lv_aload_n X.hx X.hb dX0_rowsOn_16 rfl (lv_at hl 0 rfl) ?_
    refine r_getP X h (ci := 0) (k := 25) (C := RX0) (T := TX0) (N := 36) rfl in_X0 (by decide) q167 rfl dX0_rowsOn_17 hf (fun i20 hf => ?_)
    refine lv_iload_n X.hx X.hb dX0_rowsOn_20 rfl (lv_at hl 1 rfl) ?_
    refine r_aald X h (t := 7) rfl rfl dX0_rowsOn_21 hf (fun o21 hf => ?_)
    refine r_nn hf (fun i22 hf => ?_)
    refine r_cVI (As := [.ref (ad i22)]) (rest := []) (C := RX0) (T := TX0) (N := 36) X h hf (fun res hres => wX0_isLeft l Γ ad _ b0 i22 res hres) rfl (cwV 1 X.hts (lw_V q908 q910 qs25 q82 q911) rfl rfl rfl (by decide +kernel) ⟨(by first | exact Nat.le_of_ble_eq_true rfl | omega | (dsimp only; omega)), (by first | exact Nat.le_of_ble_eq_true rfl | omega | (dsimp only; omega))⟩) rfl ⟨hl.1, Nat.le_of_ble_eq_true rfl, (by first | exact Nat.le_of_ble_eq_true rfl | omega | (dsimp only; omega)), (by first | exact Nat.le_of_ble_eq_true rfl | omega | (dsimp only; omega))⟩ rfl dX0_rowsOn_22 (fun x23 μ24 H locs hf h => ?_)
    refine lv_if_ne (tgt := 64) X.hx X.hb dX0_rowsOn_25 (by decide) (fun hc => ?_) (fun hc => ?_)
    · replace hf := gif_f hf hc
      clear hc
      exact r_rv X h hr hlk ((by first | exact Nat.le_of_ble_eq_true rfl | omega | (dsimp only; omega))) ((by first | exact Nat.le_of_ble_eq_true rfl | omega | (dsimp only; omega))) dX0_rowsOn_64 hf
    · replace hf := gif_t hf hc
      clear hc
      refine lv_aload_n X.hx X.hb dX0_rowsOn_28 rfl (lv_at hl 0 rfl) ?_
      refine r_getP X h (ci := 0) (k := 25) (C := RX0) (T := TX0) (N := 36) rfl in_X0 (by decide) q167 rfl dX0_rowsOn_29 hf (fun i25 hf => ?_)
      refine lv_iload_n X.hx X.hb dX0_rowsOn_32 rfl (lv_at hl 1 rfl) ?_
      refine r_aald X h (t := 7) rfl rfl dX0_rowsOn_33 hf (fun o26 hf => ?_)
      refine r_nn hf (fun i27 hf => ?_)
      refine r_getNP X h (ci := 1) (k := 0) (C := RX1) (T := TX1) (N := 1) rfl in_X1 (by decide) 8 rfl rfl dX0_rowsOn_34 hf (fun i28 hf => ?_)
      refine lv_iconst (v := 0) X.hx X.hb dX0_rowsOn_37 (by decide) ?_
      refine lv_aload_n X.hx X.hb dX0_rowsOn_38 rfl (lv_at hl 0 rfl) ?_
      refine r_getP X h (ci := 0) (k := 30) (C := RX0) (T := TX0) (N := 36) rfl in_X0 (by decide) q172 rfl dX0_rowsOn_39 hf (fun i29 hf => ?_)
      refine lv_bipush (v := 6) X.hx X.hb dX0_rowsOn_42 (by decide) ?_
      refine lv_aload_n X.hx X.hb dX0_rowsOn_44 rfl (lv_at hl 0 rfl) ?_
      refine r_getI X h (ci := 0) (k := 31) (C := RX0) (T := TX0) (N := 36) rfl in_X0 (by decide) q173 rfl dX0_rowsOn_45 hf (fun x30 hf => ?_)
      refine lv_imul X.hx X.hb dX0_rowsOn_48 ?_
      refine lv_bipush (v := 6) X.hx X.hb dX0_rowsOn_49 (by decide) ?_
      refine r_copy X h hl.1 q417 ((by first | exact Nat.le_of_ble_eq_true rfl | omega | (dsimp only; omega))) (Nat.le_trans (m := 26) (Nat.le_of_ble_eq_true rfl) ((by first | exact Nat.le_of_ble_eq_true rfl | omega | (dsimp only; omega)))) dX0_rowsOn_51 hf (fun μ31 H locs hf h => ?_)
      refine lv_aload_n X.hx X.hb dX0_rowsOn_54 rfl (lv_at hl 0 rfl) ?_
      refine lv_dup X.hx X.hb dX0_rowsOn_55 rfl ?_
      refine r_getI X h (ci := 0) (k := 31) (C := RX0) (T := TX0) (N := 36) rfl in_X0 (by decide) q173 rfl dX0_rowsOn_56 hf (fun x32 hf => ?_)
      refine lv_iconst (v := 1) X.hx X.hb dX0_rowsOn_59 (by decide) ?_
      refine lv_iadd X.hx X.hb dX0_rowsOn_60 ?_
      refine r_put X h (ci := 0) (k := 31) (C := RX0) (T := TX0) (N := 36) (ty0 := tyX0) (ty := .int) (v := .int (x32 + 1)) rfl in_X0 tyX0_ok nmX0 (by decide) q173 rfl rfl (by decide +kernel) rfl rfl (fun j hj => by cases hj) dX0_rowsOn_61 hf (fun μ33 H locs hf h => ?_)
      exact r_rv X h hr hlk ((by first | exact Nat.le_of_ble_eq_true rfl | omega | (dsimp only; omega))) ((by first | exact Nat.le_of_ble_eq_true rfl | omega | (dsimp only; omega))) dX0_rowsOn_64 hf
def fX0_rowsOn : Nat → gM → Nat → Int32 → Int32 → gR
  | 0, _, _, _, _ => none
  | d + 1, μ0, b0, a1, a2 => fX0_rowsOn_B (fX0_rowsOn d) μ0 b0 a1 a2
theorem wX0_rowsOn (l : Launch) (Γ : gG) : ∀ (dd : Nat) (ad : Nat → Nat) (μ0 : gM) (b0 : Nat) (a1 : Int32) (a2 : Int32) (r : Option Value × gM), fX0_rowsOn dd μ0 b0 a1 a2 = some r → gMt0 l Γ yX0_rowsOn (ws_ yX0_rowsOn cX0_rowsOn 4 none) ({ frames := 5 + dd, cells := 0, slots := 0, locals := 111 + dd * 23 } : Room) 0 0 ad μ0 [.ref (ad b0), .int a1, .int a2] r := by
  intro dd
  induction dd with
  | zero =>
    intro ad μ0 b0 a1 a2 r hf
    have hf : (none : gR) = some r := hf
    cases hf
  | succ dd ih =>
    intro ad μ0 b0 a1 a2 r hf
    exact wX0_rowsOn_B l Γ dd (fX0_rowsOn dd) ih ad μ0 b0 a1 a2 r hf
/-! X0_rows -/
def fX0_rows (μ0 : gM) (b0 : Nat) (a1 : Int32) : gR := cI (fX0_isIn μ0 a1 0 4) fun x1 μ2 => if x1 = 0 then (some (some (.int (-1)), μ2)) else (gI (gfld μ2 b0 0 7) fun x3 => if x3 = 0 then (some (some (.int (-4)), μ2)) else (gpf μ2 b0 0 32 (.int 0) fun μ4 => gpf μ4 b0 0 31 (.int 0) fun μ5 => gP (gfld μ5 b0 0 25) fun i6 => gaQ μ5 7 i6 0 fun o7 => gnn o7 fun i8 => gP (gfld μ5 b0 0 10) fun i9 => gis μ5 i8 1 <| cV (fX1_take μ5 i8 i9) fun μ10 => gis μ10 b0 0 <| cV (fX0_rowsOn 8 μ10 b0 0 a1) fun μ11 => gI (gfld μ11 b0 0 31) fun x12 => gI (gfld μ11 b0 0 32) fun x13 => gis μ11 b0 0 <| cI (fX0_ask μ11 b0 x12 x13) fun x14 μ15 => some (some (.int x14), μ15)))
set_option maxHeartbeats 4000000 in
theorem wX0_rows (l : Launch) (Γ : gG) (ad : Nat → Nat) (μ0 : gM) (b0 : Nat) (a1 : Int32) (r : Option Value × gM) (hf : fX0_rows μ0 b0 a1 = some r) : gMt0 l Γ yX0_rows (ws_ yX0_rows cX0_rows 2 (some .int)) ({ frames := 14, cells := 0, slots := 0, locals := 318 } : Room) 0 0 ad μ0 [.ref (ad b0), .int a1] r := by
  intro sz
  refine g_start (maxL := 2) (ret := (some .int)) (by decide) rfl g_all (Nat.le_of_ble_eq_true rfl) ?_
  intro p e s m below meth c ls hr hlk hnm X h hl
  generalize gA ad μ0 sz = A at X h ⊢
  generalize ([.ref (ad b0), .int a1] : List Value).toArray = args at X ⊢
  have X : gX p m c cX0_rows 2 s args "SandPiano" Γ A := X
  have hl : lv_has ls 2 [(0, .ref (ad b0)), (1, .int a1)] := hl
  show W p l e ({ frames := 14, cells := 0, slots := 0, locals := 318 } : Room) s m args below meth c s.heap [] 0 0 (MQ below (gQ0 Γ ad μ0.1 r A) args s 0 0 A) (F0 m 0 ls [])
  unfold fX0_rows at hf
  refine lv_iload_n X.hx X.hb dX0_rows_0 rfl (lv_at hl 1 rfl) ?_
  refine lv_iconst (v := 0) X.hx X.hb dX0_rows_1 (by decide) ?_
  refine lv_iconst (v := 4) X.hx X.hb dX0_rows_2 (by decide) ?_
  refine r_cSI (As := [.int a1, .int 0, .int 4]) (rest := []) X h hf (fun res hres => wX0_isIn l Γ ad _ a1 0 4 res hres) (va_cwS 3 X.hts (lw_S q344 q345 q82 q346) rfl rfl rfl (by decide +kernel) ⟨Nat.le_of_ble_eq_true rfl, Nat.le_of_ble_eq_true rfl⟩) rfl ⟨hl.1, Nat.le_of_ble_eq_true rfl, Nat.le_of_ble_eq_true rfl, Nat.le_of_ble_eq_true rfl⟩ rfl dX0_rows_3 (fun x1 μ2 H locs hf h => ?_)
  refine lv_if_ne (tgt := 11) X.hx X.hb dX0_rows_6 (by decide) (fun hc => ?_) (fun hc => ?_)
  · replace hf := gif_f hf hc
    clear hc
    refine lv_aload_n X.hx X.hb dX0_rows_11 rfl (lv_at hl 0 rfl) ?_
    refine r_getI X h (ci := 0) (k := 7) (C := RX0) (T := TX0) (N := 36) rfl in_X0 (by decide) q149 rfl dX0_rows_12 hf (fun x3 hf => ?_)
    refine lv_if_ne (tgt := 21) X.hx X.hb dX0_rows_15 (by decide) (fun hc => ?_) (fun hc => ?_)
    · replace hf := gif_f hf hc
      clear hc
      refine lv_aload_n X.hx X.hb dX0_rows_21 rfl (lv_at hl 0 rfl) ?_
      refine lv_iconst (v := 0) X.hx X.hb dX0_rows_22 (by decide) ?_
      refine r_put X h (ci := 0) (k := 32) (C := RX0) (T := TX0) (N := 36) (ty0 := tyX0) (ty := .int) (v := .int 0) rfl in_X0 tyX0_ok nmX0 (by decide) q174 rfl rfl (by decide +kernel) rfl rfl (fun j hj => by cases hj) dX0_rows_23 hf (fun μ4 H locs hf h => ?_)
      refine lv_aload_n X.hx X.hb dX0_rows_26 rfl (lv_at hl 0 rfl) ?_
      refine lv_iconst (v := 0) X.hx X.hb dX0_rows_27 (by decide) ?_
      refine r_put X h (ci := 0) (k := 31) (C := RX0) (T := TX0) (N := 36) (ty0 := tyX0) (ty := .int) (v := .int 0) rfl in_X0 tyX0_ok nmX0 (by decide) q173 rfl rfl (by decide +kernel) rfl rfl (fun j hj => by cases hj) dX0_rows_28 hf (fun μ5 H locs hf h => ?_)
      refine lv_aload_n X.hx X.hb dX0_rows_31 rfl (lv_at hl 0 rfl) ?_
      refine r_getP X h (ci := 0) (k := 25) (C := RX0) (T := TX0) (N := 36) rfl in_X0 (by decide) q167 rfl dX0_rows_32 hf (fun i6 hf => ?_)
      refine lv_iconst (v := 0) X.hx X.hb dX0_rows_35 (by decide) ?_
      refine r_aald X h (t := 7) rfl rfl dX0_rows_36 hf (fun o7 hf => ?_)
      refine r_nn hf (fun i8 hf => ?_)
      refine lv_aload_n X.hx X.hb dX0_rows_37 rfl (lv_at hl 0 rfl) ?_
      refine r_getP X h (ci := 0) (k := 10) (C := RX0) (T := TX0) (N := 36) rfl in_X0 (by decide) q152 rfl dX0_rows_38 hf (fun i9 hf => ?_)
      refine r_cVV (As := [.ref (ad i9)]) (rest := []) (C := RX1) (T := TX1) (N := 1) X h hf (fun res hres => wX1_take l Γ ad _ i8 i9 res hres) rfl (cwV 1 X.hts (lw_V q832 q833 q834 q83 q835) rfl rfl rfl (by decide +kernel) ⟨Nat.le_of_ble_eq_true rfl, Nat.le_of_ble_eq_true rfl⟩) rfl ⟨hl.1, Nat.le_of_ble_eq_true rfl, Nat.le_of_ble_eq_true rfl, Nat.le_of_ble_eq_true rfl⟩ rfl dX0_rows_41 (fun μ10 H locs hf h => ?_)
      refine lv_aload_n X.hx X.hb dX0_rows_44 rfl (lv_at hl 0 rfl) ?_
      refine lv_iconst (v := 0) X.hx X.hb dX0_rows_45 (by decide) ?_
      refine lv_iload_n X.hx X.hb dX0_rows_46 rfl (lv_at hl 1 rfl) ?_
      refine r_cVV (As := [.int 0, .int a1]) (rest := []) (C := RX0) (T := TX0) (N := 36) X h hf (fun res hres => wX0_rowsOn l Γ 8 ad _ b0 0 a1 res hres) rfl (cwV 2 X.hts (lw_V q904 q906 qs24 q82 q907) rfl rfl rfl (by decide +kernel) ⟨Nat.le_of_ble_eq_true rfl, Nat.le_of_ble_eq_true rfl⟩) rfl ⟨hl.1, Nat.le_of_ble_eq_true rfl, Nat.le_of_ble_eq_true rfl, Nat.le_of_ble_eq_true rfl⟩ rfl dX0_rows_47 (fun μ11 H locs hf h => ?_)
      refine lv_aload_n X.hx X.hb dX0_rows_50 rfl (lv_at hl 0 rfl) ?_
      refine lv_aload_n X.hx X.hb dX0_rows_51 rfl (lv_at hl 0 rfl) ?_
      refine r_getI X h (ci := 0) (k := 31) (C := RX0) (T := TX0) (N := 36) rfl in_X0 (by decide) q173 rfl dX0_rows_52 hf (fun x12 hf => ?_)
      refine lv_aload_n X.hx X.hb dX0_rows_55 rfl (lv_at hl 0 rfl) ?_
      refine r_getI X h (ci := 0) (k := 32) (C := RX0) (T := TX0) (N := 36) rfl in_X0 (by decide) q174 rfl dX0_rows_56 hf (fun x13 hf => ?_)
      refine r_cVI (As := [.int x12, .int x13]) (rest := []) (C := RX0) (T := TX0) (N := 36) X h hf (fun res hres => wX0_ask l Γ ad _ b0 x12 x13 res hres) rfl (cwV 2 X.hts (lw_V q403 q405 qs3 q82 q406) rfl rfl rfl (by decide +kernel) ⟨Nat.le_of_ble_eq_true rfl, Nat.le_of_ble_eq_true rfl⟩) rfl ⟨hl.1, Nat.le_of_ble_eq_true rfl, Nat.le_of_ble_eq_true rfl, Nat.le_of_ble_eq_true rfl⟩ rfl dX0_rows_59 (fun x14 μ15 H locs hf h => ?_)
      exact r_ri X h hr hlk (Nat.le_of_ble_eq_true rfl) (Nat.le_of_ble_eq_true rfl) dX0_rows_62 hf
    · replace hf := gif_t hf hc
      clear hc
      refine lv_bipush (v := (-4)) X.hx X.hb dX0_rows_18 (by decide) ?_
      exact r_ri X h hr hlk (Nat.le_of_ble_eq_true rfl) (Nat.le_of_ble_eq_true rfl) dX0_rows_20 hf
  · replace hf := gif_t hf hc
    clear hc
    refine lv_iconst (v := (-1)) X.hx X.hb dX0_rows_9 (by decide) ?_
    exact r_ri X h hr hlk (Nat.le_of_ble_eq_true rfl) (Nat.le_of_ble_eq_true rfl) dX0_rows_10 hf
/-! X0_spade -/
def fX0_spade (μ0 : gM) (b0 : Nat) (a1 : Int32) : gR := cI (fX0_isIn μ0 a1 1 9) fun x1 μ2 => if x1 = 0 then (some (some (.int (-1)), μ2)) else (gI (gfld μ2 b0 0 7) fun x3 => if x3 = 0 then (some (some (.int (-4)), μ2)) else (gI (gfld μ2 b0 0 8) fun x4 => gpf μ2 b0 0 8 (.int a1) fun μ5 => some (some (.int x4), μ5)))
set_option maxHeartbeats 4000000 in
theorem wX0_spade (l : Launch) (Γ : gG) (ad : Nat → Nat) (μ0 : gM) (b0 : Nat) (a1 : Int32) (r : Option Value × gM) (hf : fX0_spade μ0 b0 a1 = some r) : gMt0 l Γ yX0_spade (ws_ yX0_spade cX0_spade 3 (some .int)) ({ frames := 1, cells := 0, slots := 0, locals := 22 } : Room) 0 0 ad μ0 [.ref (ad b0), .int a1] r := by
  intro sz
  refine g_start (maxL := 3) (ret := (some .int)) (by decide) rfl g_all (Nat.le_of_ble_eq_true rfl) ?_
  intro p e s m below meth c ls hr hlk hnm X h hl
  generalize gA ad μ0 sz = A at X h ⊢
  generalize ([.ref (ad b0), .int a1] : List Value).toArray = args at X ⊢
  have X : gX p m c cX0_spade 3 s args "SandPiano" Γ A := X
  have hl : lv_has ls 3 [(0, .ref (ad b0)), (1, .int a1)] := hl
  show W p l e ({ frames := 1, cells := 0, slots := 0, locals := 22 } : Room) s m args below meth c s.heap [] 0 0 (MQ below (gQ0 Γ ad μ0.1 r A) args s 0 0 A) (F0 m 0 ls [])
  unfold fX0_spade at hf
  refine lv_iload_n X.hx X.hb dX0_spade_0 rfl (lv_at hl 1 rfl) ?_
  refine lv_iconst (v := 1) X.hx X.hb dX0_spade_1 (by decide) ?_
  refine lv_bipush (v := 9) X.hx X.hb dX0_spade_2 (by decide) ?_
  refine r_cSI (As := [.int a1, .int 1, .int 9]) (rest := []) X h hf (fun res hres => wX0_isIn l Γ ad _ a1 1 9 res hres) (va_cwS 3 X.hts (lw_S q344 q345 q82 q346) rfl rfl rfl (by decide +kernel) ⟨Nat.le_of_ble_eq_true rfl, Nat.le_of_ble_eq_true rfl⟩) rfl ⟨hl.1, Nat.le_of_ble_eq_true rfl, Nat.le_of_ble_eq_true rfl, Nat.le_of_ble_eq_true rfl⟩ rfl dX0_spade_4 (fun x1 μ2 H locs hf h => ?_)
  refine lv_if_ne (tgt := 12) X.hx X.hb dX0_spade_7 (by decide) (fun hc => ?_) (fun hc => ?_)
  · replace hf := gif_f hf hc
    clear hc
    refine lv_aload_n X.hx X.hb dX0_spade_12 rfl (lv_at hl 0 rfl) ?_
    refine r_getI X h (ci := 0) (k := 7) (C := RX0) (T := TX0) (N := 36) rfl in_X0 (by decide) q149 rfl dX0_spade_13 hf (fun x3 hf => ?_)
    refine lv_if_ne (tgt := 22) X.hx X.hb dX0_spade_16 (by decide) (fun hc => ?_) (fun hc => ?_)
    · replace hf := gif_f hf hc
      clear hc
      refine lv_aload_n X.hx X.hb dX0_spade_22 rfl (lv_at hl 0 rfl) ?_
      refine r_getI X h (ci := 0) (k := 8) (C := RX0) (T := TX0) (N := 36) rfl in_X0 (by decide) q150 rfl dX0_spade_23 hf (fun x4 hf => ?_)
      refine lv_istore_n (lv' := [(2, .int x4), (0, .ref (ad b0)), (1, .int a1)]) X.hx X.hb dX0_spade_26 rfl hl (by decide) rfl (fun ls hl => ?_)
      refine lv_aload_n X.hx X.hb dX0_spade_27 rfl (lv_at hl 1 rfl) ?_
      refine lv_iload_n X.hx X.hb dX0_spade_28 rfl (lv_at hl 2 rfl) ?_
      refine r_put X h (ci := 0) (k := 8) (C := RX0) (T := TX0) (N := 36) (ty0 := tyX0) (ty := .int) (v := .int a1) rfl in_X0 tyX0_ok nmX0 (by decide) q150 rfl rfl (by decide +kernel) rfl rfl (fun j hj => by cases hj) dX0_spade_29 hf (fun μ5 H locs hf h => ?_)
      refine lv_iload_n X.hx X.hb dX0_spade_32 rfl (lv_at hl 0 rfl) ?_
      exact r_ri X h hr hlk (Nat.le_of_ble_eq_true rfl) (Nat.le_of_ble_eq_true rfl) dX0_spade_33 hf
    · replace hf := gif_t hf hc
      clear hc
      refine lv_bipush (v := (-4)) X.hx X.hb dX0_spade_19 (by decide) ?_
      exact r_ri X h hr hlk (Nat.le_of_ble_eq_true rfl) (Nat.le_of_ble_eq_true rfl) dX0_spade_21 hf
  · replace hf := gif_t hf hc
    clear hc
    refine lv_iconst (v := (-1)) X.hx X.hb dX0_spade_10 (by decide) ?_
    exact r_ri X h hr hlk (Nat.le_of_ble_eq_true rfl) (Nat.le_of_ble_eq_true rfl) dX0_spade_11 hf
