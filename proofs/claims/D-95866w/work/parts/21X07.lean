set_option maxRecDepth 100000
/-! X0_earns -/
def fX0_earns (μ0 : gM) (b0 : Nat) (a1 : Int32) : gR := cI (fX0_isRow μ0 a1) fun x1 μ2 => if x1 = 0 then (some (some (.int (-1)), μ2)) else (gis μ2 b0 0 <| cI (fX0_askedPiece μ2 b0 a1) fun x3 μ4 => if 0 ≤ x3 then (gP (gfld μ4 b0 0 22) fun i5 => gP (gfld μ4 b0 0 10) fun i6 => gis μ4 i5 1 <| cV (fX1_take μ4 i5 i6) fun μ7 => gP (gfld μ7 b0 0 22) fun i8 => gP (gfld μ7 b0 0 5) fun i9 => gaQ μ7 3 i9 a1 fun o10 => gnn o10 fun i11 => gis μ7 b0 0 <| cI (fX0_playOn μ7 b0 i8 i11) fun x12 μ13 => gP (gfld μ13 b0 0 22) fun i14 => gP (gfld μ13 i14 1 0) fun i15 => gaI μ13 0 i15 8 fun x16 => gP (gfld μ13 b0 0 10) fun i17 => gP (gfld μ13 i17 1 0) fun i18 => gaI μ13 0 i18 8 fun x19 => some (some (.int (x16 - x19)), μ13)) else (some (some (.int x3), μ4)))
set_option maxHeartbeats 4000000 in
theorem wX0_earns (l : Launch) (Γ : gG) (ad : Nat → Nat) (μ0 : gM) (b0 : Nat) (a1 : Int32) (r : Option Value × gM) (hf : fX0_earns μ0 b0 a1 = some r) : gMt0 l Γ yX0_earns (ws_ yX0_earns cX0_earns 3 (some .int)) ({ frames := 5, cells := 0, slots := 0, locals := 112 } : Room) 0 0 ad μ0 [.ref (ad b0), .int a1] r := by
  intro sz
  refine g_start (maxL := 3) (ret := (some .int)) (by decide) rfl g_all (Nat.le_of_ble_eq_true rfl) ?_
  intro p e s m below meth c ls hr hlk hnm X h hl
  generalize gA ad μ0 sz = A at X h ⊢
  generalize ([.ref (ad b0), .int a1] : List Value).toArray = args at X ⊢
  have X : gX p m c cX0_earns 3 s args "SandPiano" Γ A := X
  have hl : lv_has ls 3 [(0, .ref (ad b0)), (1, .int a1)] := hl
  show W p l e ({ frames := 5, cells := 0, slots := 0, locals := 112 } : Room) s m args below meth c s.heap [] 0 0 (MQ below (gQ0 Γ ad μ0.1 r A) args s 0 0 A) (F0 m 0 ls [])
  unfold fX0_earns at hf
  refine lv_iload_n X.hx X.hb dX0_earns_0 rfl (lv_at hl 1 rfl) ?_
  refine r_cSI (As := [.int a1]) (rest := []) X h hf (fun res hres => wX0_isRow l Γ ad _ a1 res hres) (va_cwS 1 X.hts (lw_S q341 q342 q82 q343) rfl rfl rfl (by decide +kernel) ⟨Nat.le_of_ble_eq_true rfl, Nat.le_of_ble_eq_true rfl⟩) rfl ⟨hl.1, Nat.le_of_ble_eq_true rfl, Nat.le_of_ble_eq_true rfl, Nat.le_of_ble_eq_true rfl⟩ rfl dX0_earns_1 (fun x1 μ2 H locs hf h => ?_)
  refine lv_if_ne (tgt := 9) X.hx X.hb dX0_earns_4 (by decide) (fun hc => ?_) (fun hc => ?_)
  · replace hf := gif_f hf hc
    clear hc
    refine lv_aload_n X.hx X.hb dX0_earns_9 rfl (lv_at hl 0 rfl) ?_
    refine lv_iload_n X.hx X.hb dX0_earns_10 rfl (lv_at hl 1 rfl) ?_
    refine r_cVI (As := [.int a1]) (rest := []) (C := RX0) (T := TX0) (N := 36) X h hf (fun res hres => wX0_askedPiece l Γ ad _ b0 a1 res hres) rfl (cwV 1 X.hts (lw_V q845 q847 qs17 q82 q848) rfl rfl rfl (by decide +kernel) ⟨Nat.le_of_ble_eq_true rfl, Nat.le_of_ble_eq_true rfl⟩) rfl ⟨hl.1, Nat.le_of_ble_eq_true rfl, Nat.le_of_ble_eq_true rfl, Nat.le_of_ble_eq_true rfl⟩ rfl dX0_earns_11 (fun x3 μ4 H locs hf h => ?_)
    refine lv_istore_n (lv' := [(2, .int x3), (0, .ref (ad b0)), (1, .int a1)]) X.hx X.hb dX0_earns_14 rfl hl (by decide) rfl (fun ls hl => ?_)
    refine lv_iload_n X.hx X.hb dX0_earns_15 rfl (lv_at hl 0 rfl) ?_
    refine lv_if_ge (tgt := 21) X.hx X.hb dX0_earns_16 (by decide) (fun hc => ?_) (fun hc => ?_)
    · replace hf := gif_t hf hc
      clear hc
      refine lv_aload_n X.hx X.hb dX0_earns_21 rfl (lv_at hl 1 rfl) ?_
      refine r_getP X h (ci := 0) (k := 22) (C := RX0) (T := TX0) (N := 36) rfl in_X0 (by decide) q164 rfl dX0_earns_22 hf (fun i5 hf => ?_)
      refine lv_aload_n X.hx X.hb dX0_earns_25 rfl (lv_at hl 1 rfl) ?_
      refine r_getP X h (ci := 0) (k := 10) (C := RX0) (T := TX0) (N := 36) rfl in_X0 (by decide) q152 rfl dX0_earns_26 hf (fun i6 hf => ?_)
      refine r_cVV (As := [.ref (ad i6)]) (rest := []) (C := RX1) (T := TX1) (N := 1) X h hf (fun res hres => wX1_take l Γ ad _ i5 i6 res hres) rfl (cwV 1 X.hts (lw_V q832 q833 q834 q83 q835) rfl rfl rfl (by decide +kernel) ⟨Nat.le_of_ble_eq_true rfl, Nat.le_of_ble_eq_true rfl⟩) rfl ⟨hl.1, Nat.le_of_ble_eq_true rfl, Nat.le_of_ble_eq_true rfl, Nat.le_of_ble_eq_true rfl⟩ rfl dX0_earns_29 (fun μ7 H locs hf h => ?_)
      refine lv_aload_n X.hx X.hb dX0_earns_32 rfl (lv_at hl 1 rfl) ?_
      refine lv_aload_n X.hx X.hb dX0_earns_33 rfl (lv_at hl 1 rfl) ?_
      refine r_getP X h (ci := 0) (k := 22) (C := RX0) (T := TX0) (N := 36) rfl in_X0 (by decide) q164 rfl dX0_earns_34 hf (fun i8 hf => ?_)
      refine lv_aload_n X.hx X.hb dX0_earns_37 rfl (lv_at hl 1 rfl) ?_
      refine r_getP X h (ci := 0) (k := 5) (C := RX0) (T := TX0) (N := 36) rfl in_X0 (by decide) q146 rfl dX0_earns_38 hf (fun i9 hf => ?_)
      refine lv_iload_n X.hx X.hb dX0_earns_41 rfl (lv_at hl 2 rfl) ?_
      refine r_aald X h (t := 3) rfl rfl dX0_earns_42 hf (fun o10 hf => ?_)
      refine r_nn hf (fun i11 hf => ?_)
      refine r_cVI (As := [.ref (ad i8), .ref (ad i11)]) (rest := []) (C := RX0) (T := TX0) (N := 36) X h hf (fun res hres => wX0_playOn l Γ ad _ b0 i8 i11 res hres) rfl (cwV 2 X.hts (lw_V q849 q851 qs18 q82 q852) rfl rfl rfl (by decide +kernel) ⟨Nat.le_of_ble_eq_true rfl, Nat.le_of_ble_eq_true rfl⟩) rfl ⟨hl.1, Nat.le_of_ble_eq_true rfl, Nat.le_of_ble_eq_true rfl, Nat.le_of_ble_eq_true rfl⟩ rfl dX0_earns_43 (fun x12 μ13 H locs hf h => ?_)
      refine lv_pop X.hx X.hb dX0_earns_46 rfl ?_
      refine lv_aload_n X.hx X.hb dX0_earns_47 rfl (lv_at hl 1 rfl) ?_
      refine r_getP X h (ci := 0) (k := 22) (C := RX0) (T := TX0) (N := 36) rfl in_X0 (by decide) q164 rfl dX0_earns_48 hf (fun i14 hf => ?_)
      refine r_getNP X h (ci := 1) (k := 0) (C := RX1) (T := TX1) (N := 1) rfl in_X1 (by decide) 8 rfl rfl dX0_earns_51 hf (fun i15 hf => ?_)
      refine lv_bipush (v := 8) X.hx X.hb dX0_earns_54 (by decide) ?_
      refine r_iald X h dX0_earns_56 hf (fun x16 hf => ?_)
      refine lv_aload_n X.hx X.hb dX0_earns_57 rfl (lv_at hl 1 rfl) ?_
      refine r_getP X h (ci := 0) (k := 10) (C := RX0) (T := TX0) (N := 36) rfl in_X0 (by decide) q152 rfl dX0_earns_58 hf (fun i17 hf => ?_)
      refine r_getNP X h (ci := 1) (k := 0) (C := RX1) (T := TX1) (N := 1) rfl in_X1 (by decide) 8 rfl rfl dX0_earns_61 hf (fun i18 hf => ?_)
      refine lv_bipush (v := 8) X.hx X.hb dX0_earns_64 (by decide) ?_
      refine r_iald X h dX0_earns_66 hf (fun x19 hf => ?_)
      refine lv_isub X.hx X.hb dX0_earns_67 ?_
      exact r_ri X h hr hlk (Nat.le_of_ble_eq_true rfl) (Nat.le_of_ble_eq_true rfl) dX0_earns_68 hf
    · replace hf := gif_f hf hc
      clear hc
      refine lv_iload_n X.hx X.hb dX0_earns_19 rfl (lv_at hl 0 rfl) ?_
      exact r_ri X h hr hlk (Nat.le_of_ble_eq_true rfl) (Nat.le_of_ble_eq_true rfl) dX0_earns_20 hf
  · replace hf := gif_t hf hc
    clear hc
    refine lv_iconst (v := (-1)) X.hx X.hb dX0_earns_7 (by decide) ?_
    exact r_ri X h hr hlk (Nat.le_of_ble_eq_true rfl) (Nat.le_of_ble_eq_true rfl) dX0_earns_8 hf
/-! X0_here -/
def fX0_here (μ0 : gM) (b0 : Nat) : gR := gI (gfld μ0 b0 0 12) fun x1 => gP (gfld μ0 b0 0 11) fun i2 => glen μ0 1 i2 fun x3 => if x3 ≤ x1 then (some (some (.int (-9)), μ0)) else (gP (gfld μ0 b0 0 11) fun i4 => gI (gfld μ0 b0 0 12) fun x5 => gaI μ0 1 i4 x5 fun x6 => some (some (.int x6), μ0))
set_option maxHeartbeats 4000000 in
theorem wX0_here (l : Launch) (Γ : gG) (ad : Nat → Nat) (μ0 : gM) (b0 : Nat) (r : Option Value × gM) (hf : fX0_here μ0 b0 = some r) : gMt0 l Γ yX0_here (ws_ yX0_here cX0_here 1 (some .int)) ({ frames := 0, cells := 0, slots := 0, locals := 0 } : Room) 0 0 ad μ0 [.ref (ad b0)] r := by
  intro sz
  refine g_start (maxL := 1) (ret := (some .int)) (by decide) rfl g_all (Nat.le_of_ble_eq_true rfl) ?_
  intro p e s m below meth c ls hr hlk hnm X h hl
  generalize gA ad μ0 sz = A at X h ⊢
  generalize ([.ref (ad b0)] : List Value).toArray = args at X ⊢
  have X : gX p m c cX0_here 1 s args "SandPiano" Γ A := X
  have hl : lv_has ls 1 [(0, .ref (ad b0))] := hl
  show W p l e ({ frames := 0, cells := 0, slots := 0, locals := 0 } : Room) s m args below meth c s.heap [] 0 0 (MQ below (gQ0 Γ ad μ0.1 r A) args s 0 0 A) (F0 m 0 ls [])
  unfold fX0_here at hf
  refine lv_aload_n X.hx X.hb dX0_here_0 rfl (lv_at hl 0 rfl) ?_
  refine r_getI X h (ci := 0) (k := 12) (C := RX0) (T := TX0) (N := 36) rfl in_X0 (by decide) q154 rfl dX0_here_1 hf (fun x1 hf => ?_)
  refine lv_aload_n X.hx X.hb dX0_here_4 rfl (lv_at hl 0 rfl) ?_
  refine r_getP X h (ci := 0) (k := 11) (C := RX0) (T := TX0) (N := 36) rfl in_X0 (by decide) q153 rfl dX0_here_5 hf (fun i2 hf => ?_)
  refine r_len X h (t := 1) rfl dX0_here_8 hf (fun x3 hf => ?_)
  refine lv_icmp_ge (tgt := 24) X.hx X.hb dX0_here_9 (by decide) (fun hc => ?_) (fun hc => ?_)
  · replace hf := gif_t hf hc
    clear hc
    refine lv_bipush (v := (-9)) X.hx X.hb dX0_here_24 (by decide) ?_
    exact r_ri X h hr hlk (Nat.le_of_ble_eq_true rfl) (Nat.le_of_ble_eq_true rfl) dX0_here_26 hf
  · replace hf := gif_f hf hc
    clear hc
    refine lv_aload_n X.hx X.hb dX0_here_12 rfl (lv_at hl 0 rfl) ?_
    refine r_getP X h (ci := 0) (k := 11) (C := RX0) (T := TX0) (N := 36) rfl in_X0 (by decide) q153 rfl dX0_here_13 hf (fun i4 hf => ?_)
    refine lv_aload_n X.hx X.hb dX0_here_16 rfl (lv_at hl 0 rfl) ?_
    refine r_getI X h (ci := 0) (k := 12) (C := RX0) (T := TX0) (N := 36) rfl in_X0 (by decide) q154 rfl dX0_here_17 hf (fun x5 hf => ?_)
    refine r_bald X h dX0_here_20 hf (fun x6 hf => ?_)
    refine lv_goto (tgt := 26) X.hx X.hb dX0_here_21 (by decide) ?_
    exact r_ri X h hr hlk (Nat.le_of_ble_eq_true rfl) (Nat.le_of_ble_eq_true rfl) dX0_here_26 hf
/-! X0_readsFigure -/
def fX0_readsFigure (μ0 : gM) (b0 : Nat) (a1 : Int32) : gR := gis μ0 b0 0 <| cI (fX0_here μ0 b0) fun x1 μ2 => gnm ((x1 - 48)) fun x3 => cI (fX0_isIn μ2 x3 a1 9) fun x4 μ5 => if x4 = 0 then (some (some (.int (-9)), μ5)) else (gI (gfld μ5 b0 0 12) fun x6 => gpf μ5 b0 0 12 (.int (x6 + 1)) fun μ7 => some (some (.int x3), μ7))
set_option maxHeartbeats 4000000 in
theorem wX0_readsFigure (l : Launch) (Γ : gG) (ad : Nat → Nat) (μ0 : gM) (b0 : Nat) (a1 : Int32) (r : Option Value × gM) (hf : fX0_readsFigure μ0 b0 a1 = some r) : gMt0 l Γ yX0_readsFigure (ws_ yX0_readsFigure cX0_readsFigure 3 (some .int)) ({ frames := 1, cells := 0, slots := 0, locals := 22 } : Room) 0 0 ad μ0 [.ref (ad b0), .int a1] r := by
  intro sz
  refine g_start (maxL := 3) (ret := (some .int)) (by decide) rfl g_all (Nat.le_of_ble_eq_true rfl) ?_
  intro p e s m below meth c ls hr hlk hnm X h hl
  generalize gA ad μ0 sz = A at X h ⊢
  generalize ([.ref (ad b0), .int a1] : List Value).toArray = args at X ⊢
  have X : gX p m c cX0_readsFigure 3 s args "SandPiano" Γ A := X
  have hl : lv_has ls 3 [(0, .ref (ad b0)), (1, .int a1)] := hl
  show W p l e ({ frames := 1, cells := 0, slots := 0, locals := 22 } : Room) s m args below meth c s.heap [] 0 0 (MQ below (gQ0 Γ ad μ0.1 r A) args s 0 0 A) (F0 m 0 ls [])
  unfold fX0_readsFigure at hf
  refine lv_aload_n X.hx X.hb dX0_readsFigure_0 rfl (lv_at hl 0 rfl) ?_
  refine r_cVI (As := []) (rest := []) (C := RX0) (T := TX0) (N := 36) X h hf (fun res hres => wX0_here l Γ ad _ b0 res hres) rfl (cwV 0 X.hts (lw_V q457 q459 qs5 q82 q460) rfl rfl rfl (by decide +kernel) ⟨Nat.le_of_ble_eq_true rfl, Nat.le_of_ble_eq_true rfl⟩) rfl ⟨hl.1, Nat.le_of_ble_eq_true rfl, Nat.le_of_ble_eq_true rfl, Nat.le_of_ble_eq_true rfl⟩ rfl dX0_readsFigure_1 (fun x1 μ2 H locs hf h => ?_)
  refine lv_bipush (v := 48) X.hx X.hb dX0_readsFigure_4 (by decide) ?_
  refine lv_isub X.hx X.hb dX0_readsFigure_6 ?_
  refine r_nmI hf (fun x3 hf => ?_)
  refine lv_istore_n (lv' := [(2, .int x3), (0, .ref (ad b0)), (1, .int a1)]) X.hx X.hb dX0_readsFigure_7 rfl hl (by decide) rfl (fun ls hl => ?_)
  refine lv_iload_n X.hx X.hb dX0_readsFigure_8 rfl (lv_at hl 0 rfl) ?_
  refine lv_iload_n X.hx X.hb dX0_readsFigure_9 rfl (lv_at hl 2 rfl) ?_
  refine lv_bipush (v := 9) X.hx X.hb dX0_readsFigure_10 (by decide) ?_
  refine r_cSI (As := [.int x3, .int a1, .int 9]) (rest := []) X h hf (fun res hres => wX0_isIn l Γ ad _ x3 a1 9 res hres) (va_cwS 3 X.hts (lw_S q344 q345 q82 q346) rfl rfl rfl (by decide +kernel) ⟨Nat.le_of_ble_eq_true rfl, Nat.le_of_ble_eq_true rfl⟩) rfl ⟨hl.1, Nat.le_of_ble_eq_true rfl, Nat.le_of_ble_eq_true rfl, Nat.le_of_ble_eq_true rfl⟩ rfl dX0_readsFigure_12 (fun x4 μ5 H locs hf h => ?_)
  refine lv_if_ne (tgt := 21) X.hx X.hb dX0_readsFigure_15 (by decide) (fun hc => ?_) (fun hc => ?_)
  · replace hf := gif_f hf hc
    clear hc
    refine lv_aload_n X.hx X.hb dX0_readsFigure_21 rfl (lv_at hl 1 rfl) ?_
    refine lv_dup X.hx X.hb dX0_readsFigure_22 rfl ?_
    refine r_getI X h (ci := 0) (k := 12) (C := RX0) (T := TX0) (N := 36) rfl in_X0 (by decide) q154 rfl dX0_readsFigure_23 hf (fun x6 hf => ?_)
    refine lv_iconst (v := 1) X.hx X.hb dX0_readsFigure_26 (by decide) ?_
    refine lv_iadd X.hx X.hb dX0_readsFigure_27 ?_
    refine r_put X h (ci := 0) (k := 12) (C := RX0) (T := TX0) (N := 36) (ty0 := tyX0) (ty := .int) (v := .int (x6 + 1)) rfl in_X0 tyX0_ok nmX0 (by decide) q154 rfl rfl (by decide +kernel) rfl rfl (fun j hj => by cases hj) dX0_readsFigure_28 hf (fun μ7 H locs hf h => ?_)
    refine lv_iload_n X.hx X.hb dX0_readsFigure_31 rfl (lv_at hl 0 rfl) ?_
    exact r_ri X h hr hlk (Nat.le_of_ble_eq_true rfl) (Nat.le_of_ble_eq_true rfl) dX0_readsFigure_32 hf
  · replace hf := gif_t hf hc
    clear hc
    refine lv_bipush (v := (-9)) X.hx X.hb dX0_readsFigure_18 (by decide) ?_
    exact r_ri X h hr hlk (Nat.le_of_ble_eq_true rfl) (Nat.le_of_ble_eq_true rfl) dX0_readsFigure_20 hf
/-! X0_readsHead -/
def fX0_readsHead (μ0 : gM) (b0 : Nat) : gR := gis μ0 b0 0 <| cI (fX0_here μ0 b0) fun x1 μ2 => if x1 = 112 then (gI (gfld μ2 b0 0 12) fun x3 => gpf μ2 b0 0 12 (.int (x3 + 1)) fun μ4 => gis μ4 b0 0 <| cI (fX0_readsFigure μ4 b0 1) fun x5 μ6 => gjn (fun (x7 : Int32) (μ8 : gM) => gpf μ8 b0 0 13 (.int x7) fun μ10 => if x5 = (-9) then (rZ 0 μ10) else (rZ 1 μ10)) fun j9 => if x5 = (-9) then (j9 0 μ6) else (j9 x5 μ6)) else (rZ 0 μ2)
set_option maxHeartbeats 4000000 in
theorem wX0_readsHead (l : Launch) (Γ : gG) (ad : Nat → Nat) (μ0 : gM) (b0 : Nat) (r : Option Value × gM) (hf : fX0_readsHead μ0 b0 = some r) : gMt0 l Γ yX0_readsHead (ws_ yX0_readsHead cX0_readsHead 2 (some .boolean)) ({ frames := 2, cells := 0, slots := 0, locals := 44 } : Room) 0 0 ad μ0 [.ref (ad b0)] r := by
  intro sz
  refine g_start (maxL := 2) (ret := (some .boolean)) (by decide) rfl g_all (Nat.le_of_ble_eq_true rfl) ?_
  intro p e s m below meth c ls hr hlk hnm X h hl
  generalize gA ad μ0 sz = A at X h ⊢
  generalize ([.ref (ad b0)] : List Value).toArray = args at X ⊢
  have X : gX p m c cX0_readsHead 2 s args "SandPiano" Γ A := X
  have hl : lv_has ls 2 [(0, .ref (ad b0))] := hl
  show W p l e ({ frames := 2, cells := 0, slots := 0, locals := 44 } : Room) s m args below meth c s.heap [] 0 0 (MQ below (gQ0 Γ ad μ0.1 r A) args s 0 0 A) (F0 m 0 ls [])
  unfold fX0_readsHead at hf
  refine lv_aload_n X.hx X.hb dX0_readsHead_0 rfl (lv_at hl 0 rfl) ?_
  refine r_cVI (As := []) (rest := []) (C := RX0) (T := TX0) (N := 36) X h hf (fun res hres => wX0_here l Γ ad _ b0 res hres) rfl (cwV 0 X.hts (lw_V q457 q459 qs5 q82 q460) rfl rfl rfl (by decide +kernel) ⟨Nat.le_of_ble_eq_true rfl, Nat.le_of_ble_eq_true rfl⟩) rfl ⟨hl.1, Nat.le_of_ble_eq_true rfl, Nat.le_of_ble_eq_true rfl, Nat.le_of_ble_eq_true rfl⟩ rfl dX0_readsHead_1 (fun x1 μ2 H locs hf h => ?_)
  refine lv_bipush (v := 112) X.hx X.hb dX0_readsHead_4 (by decide) ?_
  refine lv_icmp_eq (tgt := 11) X.hx X.hb dX0_readsHead_6 (by decide) (fun hc => ?_) (fun hc => ?_)
  · replace hf := gif_t hf hc
    clear hc
    refine lv_aload_n X.hx X.hb dX0_readsHead_11 rfl (lv_at hl 0 rfl) ?_
    refine lv_dup X.hx X.hb dX0_readsHead_12 rfl ?_
    refine r_getI X h (ci := 0) (k := 12) (C := RX0) (T := TX0) (N := 36) rfl in_X0 (by decide) q154 rfl dX0_readsHead_13 hf (fun x3 hf => ?_)
    refine lv_iconst (v := 1) X.hx X.hb dX0_readsHead_16 (by decide) ?_
    refine lv_iadd X.hx X.hb dX0_readsHead_17 ?_
    refine r_put X h (ci := 0) (k := 12) (C := RX0) (T := TX0) (N := 36) (ty0 := tyX0) (ty := .int) (v := .int (x3 + 1)) rfl in_X0 tyX0_ok nmX0 (by decide) q154 rfl rfl (by decide +kernel) rfl rfl (fun j hj => by cases hj) dX0_readsHead_18 hf (fun μ4 H locs hf h => ?_)
    refine lv_aload_n X.hx X.hb dX0_readsHead_21 rfl (lv_at hl 0 rfl) ?_
    refine lv_iconst (v := 1) X.hx X.hb dX0_readsHead_22 (by decide) ?_
    refine r_cVI (As := [.int 1]) (rest := []) (C := RX0) (T := TX0) (N := 36) X h hf (fun res hres => wX0_readsFigure l Γ ad _ b0 1 res hres) rfl (cwV 1 X.hts (lw_V q465 q467 qs7 q82 q468) rfl rfl rfl (by decide +kernel) ⟨Nat.le_of_ble_eq_true rfl, Nat.le_of_ble_eq_true rfl⟩) rfl ⟨hl.1, Nat.le_of_ble_eq_true rfl, Nat.le_of_ble_eq_true rfl, Nat.le_of_ble_eq_true rfl⟩ rfl dX0_readsHead_23 (fun x5 μ6 H locs hf h => ?_)
    refine lv_istore_n (lv' := [(1, .int x5), (0, .ref (ad b0))]) X.hx X.hb dX0_readsHead_26 rfl hl (by decide) rfl (fun ls hl => ?_)
    refine lv_aload_n X.hx X.hb dX0_readsHead_27 rfl (lv_at hl 1 rfl) ?_
    refine lv_iload_n X.hx X.hb dX0_readsHead_28 rfl (lv_at hl 0 rfl) ?_
    refine lv_bipush (v := (-9)) X.hx X.hb dX0_readsHead_29 (by decide) ?_
    refine r_jn hf (fun j9 ej9 hf => ?_)
    have hj9 : ∀ (x7 : Int32) (μ8 : gM) (H : Heap) (locs : List Loc) (ls : Array Slot), j9 x7 μ8 = some r → gWd Γ A μ0.1 ad μ8 s.heap H locs → lv_has ls 2 [(1, .int x5)] → W p l e ({ frames := 2, cells := 0, slots := 0, locals := 44 } : Room) s m args below meth c H locs 0 0 (MQ below (gQ0 Γ ad μ0.1 r A) args s 0 0 A) (F0 m 39 ls [.int x7, .ref (ad b0)]) := by
      intro x7 μ8 H locs ls hf h hl
      rw [ej9] at hf
      refine r_put X h (ci := 0) (k := 13) (C := RX0) (T := TX0) (N := 36) (ty0 := tyX0) (ty := .int) (v := .int x7) rfl in_X0 tyX0_ok nmX0 (by decide) q155 rfl rfl (by decide +kernel) rfl rfl (fun j hj => by cases hj) dX0_readsHead_39 hf (fun μ10 H locs hf h => ?_)
      refine lv_iload_n X.hx X.hb dX0_readsHead_42 rfl (lv_at hl 0 rfl) ?_
      refine lv_bipush (v := (-9)) X.hx X.hb dX0_readsHead_43 (by decide) ?_
      refine lv_icmp_eq (tgt := 52) X.hx X.hb dX0_readsHead_45 (by decide) (fun hc => ?_) (fun hc => ?_)
      · replace hf := gif_t hf hc
        clear hc
        refine lv_iconst (v := 0) X.hx X.hb dX0_readsHead_52 (by decide) ?_
        exact r_rz X h hr hlk (Nat.le_of_ble_eq_true rfl) (Nat.le_of_ble_eq_true rfl) dX0_readsHead_53 hf
      · replace hf := gif_f hf hc
        clear hc
        refine lv_iconst (v := 1) X.hx X.hb dX0_readsHead_48 (by decide) ?_
        refine lv_goto (tgt := 53) X.hx X.hb dX0_readsHead_49 (by decide) ?_
        exact r_rz X h hr hlk (Nat.le_of_ble_eq_true rfl) (Nat.le_of_ble_eq_true rfl) dX0_readsHead_53 hf
    clear ej9
    refine lv_icmp_ne (tgt := 38) X.hx X.hb dX0_readsHead_31 (by decide) (fun hc => ?_) (fun hc => ?_)
    · replace hf := gif_f hf hc
      clear hc
      refine lv_iload_n X.hx X.hb dX0_readsHead_38 rfl (lv_at hl 0 rfl) ?_
      exact hj9 _ _ _ _ _ hf h (lv_sub hl [0] rfl)
    · replace hf := gif_t hf hc
      clear hc
      refine lv_iconst (v := 0) X.hx X.hb dX0_readsHead_34 (by decide) ?_
      refine lv_goto (tgt := 39) X.hx X.hb dX0_readsHead_35 (by decide) ?_
      exact hj9 _ _ _ _ _ hf h (lv_sub hl [0] rfl)
  · replace hf := gif_f hf hc
    clear hc
    refine lv_iconst (v := 0) X.hx X.hb dX0_readsHead_9 (by decide) ?_
    exact r_rz X h hr hlk (Nat.le_of_ble_eq_true rfl) (Nat.le_of_ble_eq_true rfl) dX0_readsHead_10 hf
/-! X0_readsKey -/
def fX0_readsKey (μ0 : gM) (b0 : Nat) : gR := gis μ0 b0 0 <| cI (fX0_here μ0 b0) fun x1 μ2 => gjn (fun (x3 : Int32) (μ4 : gM) => if x3 = 0 then (rZ 0 μ4) else (gI (gfld μ4 b0 0 14) fun x6 => if x6 = 6 then (rZ 0 μ4) else (gI (gfld μ4 b0 0 12) fun x7 => gpf μ4 b0 0 12 (.int (x7 + 1)) fun μ8 => gis μ8 b0 0 <| cI (fX0_readsFigure μ8 b0 0) fun x9 μ10 => gjn (fun (x11 : Int32) (μ12 : gM) => gjn (fun (x14 : Int32) (μ15 : gM) => gjn (fun (x17 : Int32) (μ18 : gM) => if x17 = (-9) then (rZ 0 μ18) else (gP (gfld μ18 b0 0 15) fun i20 => gI (gfld μ18 b0 0 14) fun x21 => gsI μ18 0 i20 x21 x1 fun μ22 => gP (gfld μ22 b0 0 16) fun i23 => gI (gfld μ22 b0 0 14) fun x24 => gsI μ22 0 i23 x24 x9 fun μ25 => gP (gfld μ25 b0 0 17) fun i26 => gI (gfld μ25 b0 0 14) fun x27 => gsI μ25 0 i26 x27 ((10 * x11) + x14) fun μ28 => gP (gfld μ28 b0 0 18) fun i29 => gI (gfld μ28 b0 0 14) fun x30 => gsI μ28 0 i29 x30 x17 fun μ31 => gI (gfld μ31 b0 0 14) fun x32 => gpf μ31 b0 0 14 (.int (x32 + 1)) fun μ33 => rZ 1 μ33)) fun j19 => if x14 = (-9) then (j19 (-9) μ15) else (gis μ15 b0 0 <| cI (fX0_readsFigure μ15 b0 0) fun x34 μ35 => j19 x34 μ35)) fun j16 => if x11 = (-9) then (j16 (-9) μ12) else (gis μ12 b0 0 <| cI (fX0_readsFigure μ12 b0 0) fun x36 μ37 => j16 x36 μ37)) fun j13 => if x9 = (-9) then (j13 (-9) μ10) else (gis μ10 b0 0 <| cI (fX0_readsFigure μ10 b0 0) fun x38 μ39 => j13 x38 μ39)))) fun j5 => gjn (fun  (μ40 : gM) => j5 1 μ40) fun j41 => if x1 = 107 then (j41 μ2) else (if x1 = 98 then (j41 μ2) else (if x1 = 115 then (j41 μ2) else (if x1 = 99 then (j41 μ2) else (if x1 = 100 then (j41 μ2) else (if x1 = 114 then (j41 μ2) else (j5 0 μ2))))))
set_option maxHeartbeats 4000000 in
theorem wX0_readsKey (l : Launch) (Γ : gG) (ad : Nat → Nat) (μ0 : gM) (b0 : Nat) (r : Option Value × gM) (hf : fX0_readsKey μ0 b0 = some r) : gMt0 l Γ yX0_readsKey (ws_ yX0_readsKey cX0_readsKey 7 (some .boolean)) ({ frames := 2, cells := 0, slots := 0, locals := 44 } : Room) 0 0 ad μ0 [.ref (ad b0)] r := by
  intro sz
  refine g_start (maxL := 7) (ret := (some .boolean)) (by decide) rfl g_all (Nat.le_of_ble_eq_true rfl) ?_
  intro p e s m below meth c ls hr hlk hnm X h hl
  generalize gA ad μ0 sz = A at X h ⊢
  generalize ([.ref (ad b0)] : List Value).toArray = args at X ⊢
  have X : gX p m c cX0_readsKey 7 s args "SandPiano" Γ A := X
  have hl : lv_has ls 7 [(0, .ref (ad b0))] := hl
  show W p l e ({ frames := 2, cells := 0, slots := 0, locals := 44 } : Room) s m args below meth c s.heap [] 0 0 (MQ below (gQ0 Γ ad μ0.1 r A) args s 0 0 A) (F0 m 0 ls [])
  unfold fX0_readsKey at hf
  refine lv_aload_n X.hx X.hb dX0_readsKey_0 rfl (lv_at hl 0 rfl) ?_
  refine r_cVI (As := []) (rest := []) (C := RX0) (T := TX0) (N := 36) X h hf (fun res hres => wX0_here l Γ ad _ b0 res hres) rfl (cwV 0 X.hts (lw_V q457 q459 qs5 q82 q460) rfl rfl rfl (by decide +kernel) ⟨Nat.le_of_ble_eq_true rfl, Nat.le_of_ble_eq_true rfl⟩) rfl ⟨hl.1, Nat.le_of_ble_eq_true rfl, Nat.le_of_ble_eq_true rfl, Nat.le_of_ble_eq_true rfl⟩ rfl dX0_readsKey_1 (fun x1 μ2 H locs hf h => ?_)
  refine lv_istore_n (lv' := [(1, .int x1), (0, .ref (ad b0))]) X.hx X.hb dX0_readsKey_4 rfl hl (by decide) rfl (fun ls hl => ?_)
  refine lv_iload_n X.hx X.hb dX0_readsKey_5 rfl (lv_at hl 0 rfl) ?_
  refine lv_bipush (v := 107) X.hx X.hb dX0_readsKey_6 (by decide) ?_
  refine r_jn hf (fun j5 ej5 hf => ?_)
  have hj5 : ∀ (x3 : Int32) (μ4 : gM) (H : Heap) (locs : List Loc) (ls : Array Slot), j5 x3 μ4 = some r → gWd Γ A μ0.1 ad μ4 s.heap H locs → lv_has ls 7 [(0, .ref (ad b0)), (1, .int x1)] → W p l e ({ frames := 2, cells := 0, slots := 0, locals := 44 } : Room) s m args below meth c H locs 0 0 (MQ below (gQ0 Γ ad μ0.1 r A) args s 0 0 A) (F0 m 46 ls [.int x3]) := by
    intro x3 μ4 H locs ls hf h hl
    rw [ej5] at hf
    refine lv_istore_n (lv' := [(2, .int x3), (0, .ref (ad b0)), (1, .int x1)]) X.hx X.hb dX0_readsKey_46 rfl hl (by decide) rfl (fun ls hl => ?_)
    refine lv_iload_n X.hx X.hb dX0_readsKey_47 rfl (lv_at hl 0 rfl) ?_
    refine lv_if_eq (tgt := 60) X.hx X.hb dX0_readsKey_48 (by decide) (fun hc => ?_) (fun hc => ?_)
    · replace hf := gif_t hf hc
      clear hc
      refine lv_iconst (v := 0) X.hx X.hb dX0_readsKey_60 (by decide) ?_
      exact r_rz X h hr hlk (Nat.le_of_ble_eq_true rfl) (Nat.le_of_ble_eq_true rfl) dX0_readsKey_61 hf
    · replace hf := gif_f hf hc
      clear hc
      refine lv_aload_n X.hx X.hb dX0_readsKey_51 rfl (lv_at hl 1 rfl) ?_
      refine r_getI X h (ci := 0) (k := 14) (C := RX0) (T := TX0) (N := 36) rfl in_X0 (by decide) q156 rfl dX0_readsKey_52 hf (fun x6 hf => ?_)
      refine lv_bipush (v := 6) X.hx X.hb dX0_readsKey_55 (by decide) ?_
      refine lv_icmp_ne (tgt := 62) X.hx X.hb dX0_readsKey_57 (by decide) (fun hc => ?_) (fun hc => ?_)
      · replace hf := gif_f hf hc
        clear hc
        refine lv_aload_n X.hx X.hb dX0_readsKey_62 rfl (lv_at hl 1 rfl) ?_
        refine lv_dup X.hx X.hb dX0_readsKey_63 rfl ?_
        refine r_getI X h (ci := 0) (k := 12) (C := RX0) (T := TX0) (N := 36) rfl in_X0 (by decide) q154 rfl dX0_readsKey_64 hf (fun x7 hf => ?_)
        refine lv_iconst (v := 1) X.hx X.hb dX0_readsKey_67 (by decide) ?_
        refine lv_iadd X.hx X.hb dX0_readsKey_68 ?_
        refine r_put X h (ci := 0) (k := 12) (C := RX0) (T := TX0) (N := 36) (ty0 := tyX0) (ty := .int) (v := .int (x7 + 1)) rfl in_X0 tyX0_ok nmX0 (by decide) q154 rfl rfl (by decide +kernel) rfl rfl (fun j hj => by cases hj) dX0_readsKey_69 hf (fun μ8 H locs hf h => ?_)
        refine lv_aload_n X.hx X.hb dX0_readsKey_72 rfl (lv_at hl 1 rfl) ?_
        refine lv_iconst (v := 0) X.hx X.hb dX0_readsKey_73 (by decide) ?_
        refine r_cVI (As := [.int 0]) (rest := []) (C := RX0) (T := TX0) (N := 36) X h hf (fun res hres => wX0_readsFigure l Γ ad _ b0 0 res hres) rfl (cwV 1 X.hts (lw_V q465 q467 qs7 q82 q468) rfl rfl rfl (by decide +kernel) ⟨Nat.le_of_ble_eq_true rfl, Nat.le_of_ble_eq_true rfl⟩) rfl ⟨hl.1, Nat.le_of_ble_eq_true rfl, Nat.le_of_ble_eq_true rfl, Nat.le_of_ble_eq_true rfl⟩ rfl dX0_readsKey_74 (fun x9 μ10 H locs hf h => ?_)
        refine lv_istore_n (lv' := [(3, .int x9), (2, .int x3), (0, .ref (ad b0)), (1, .int x1)]) X.hx X.hb dX0_readsKey_77 rfl hl (by decide) rfl (fun ls hl => ?_)
        refine lv_iload_n X.hx X.hb dX0_readsKey_78 rfl (lv_at hl 0 rfl) ?_
        refine lv_bipush (v := (-9)) X.hx X.hb dX0_readsKey_79 (by decide) ?_
        refine r_jn hf (fun j13 ej13 hf => ?_)
        have hj13 : ∀ (x11 : Int32) (μ12 : gM) (H : Heap) (locs : List Loc) (ls : Array Slot), j13 x11 μ12 = some r → gWd Γ A μ0.1 ad μ12 s.heap H locs → lv_has ls 7 [(0, .ref (ad b0)), (1, .int x1), (3, .int x9)] → W p l e ({ frames := 2, cells := 0, slots := 0, locals := 44 } : Room) s m args below meth c H locs 0 0 (MQ below (gQ0 Γ ad μ0.1 r A) args s 0 0 A) (F0 m 94 ls [.int x11]) := by
          intro x11 μ12 H locs ls hf h hl
          rw [ej13] at hf
          refine lv_istore (lv' := [(4, .int x11), (0, .ref (ad b0)), (1, .int x1), (3, .int x9)]) X.hx X.hb dX0_readsKey_94 hl (by decide) rfl (fun ls hl => ?_)
          refine lv_iload X.hx X.hb dX0_readsKey_96 (lv_at hl 0 rfl) ?_
          refine lv_bipush (v := (-9)) X.hx X.hb dX0_readsKey_98 (by decide) ?_
          refine r_jn hf (fun j16 ej16 hf => ?_)
          have hj16 : ∀ (x14 : Int32) (μ15 : gM) (H : Heap) (locs : List Loc) (ls : Array Slot), j16 x14 μ15 = some r → gWd Γ A μ0.1 ad μ15 s.heap H locs → lv_has ls 7 [(0, .ref (ad b0)), (1, .int x1), (3, .int x9), (4, .int x11)] → W p l e ({ frames := 2, cells := 0, slots := 0, locals := 44 } : Room) s m args below meth c H locs 0 0 (MQ below (gQ0 Γ ad μ0.1 r A) args s 0 0 A) (F0 m 113 ls [.int x14]) := by
            intro x14 μ15 H locs ls hf h hl
            rw [ej16] at hf
            refine lv_istore (lv' := [(5, .int x14), (0, .ref (ad b0)), (1, .int x1), (3, .int x9), (4, .int x11)]) X.hx X.hb dX0_readsKey_113 hl (by decide) rfl (fun ls hl => ?_)
            refine lv_iload X.hx X.hb dX0_readsKey_115 (lv_at hl 0 rfl) ?_
            refine lv_bipush (v := (-9)) X.hx X.hb dX0_readsKey_117 (by decide) ?_
            refine r_jn hf (fun j19 ej19 hf => ?_)
            have hj19 : ∀ (x17 : Int32) (μ18 : gM) (H : Heap) (locs : List Loc) (ls : Array Slot), j19 x17 μ18 = some r → gWd Γ A μ0.1 ad μ18 s.heap H locs → lv_has ls 7 [(0, .ref (ad b0)), (1, .int x1), (3, .int x9), (4, .int x11), (5, .int x14)] → W p l e ({ frames := 2, cells := 0, slots := 0, locals := 44 } : Room) s m args below meth c H locs 0 0 (MQ below (gQ0 Γ ad μ0.1 r A) args s 0 0 A) (F0 m 132 ls [.int x17]) := by
              intro x17 μ18 H locs ls hf h hl
              rw [ej19] at hf
              refine lv_istore (lv' := [(6, .int x17), (0, .ref (ad b0)), (1, .int x1), (3, .int x9), (4, .int x11), (5, .int x14)]) X.hx X.hb dX0_readsKey_132 hl (by decide) rfl (fun ls hl => ?_)
              refine lv_iload X.hx X.hb dX0_readsKey_134 (lv_at hl 0 rfl) ?_
              refine lv_bipush (v := (-9)) X.hx X.hb dX0_readsKey_136 (by decide) ?_
              refine lv_icmp_ne (tgt := 143) X.hx X.hb dX0_readsKey_138 (by decide) (fun hc => ?_) (fun hc => ?_)
              · replace hf := gif_f hf hc
                clear hc
                refine lv_aload_n X.hx X.hb dX0_readsKey_143 rfl (lv_at hl 1 rfl) ?_
                refine r_getP X h (ci := 0) (k := 15) (C := RX0) (T := TX0) (N := 36) rfl in_X0 (by decide) q157 rfl dX0_readsKey_144 hf (fun i20 hf => ?_)
                refine lv_aload_n X.hx X.hb dX0_readsKey_147 rfl (lv_at hl 1 rfl) ?_
                refine r_getI X h (ci := 0) (k := 14) (C := RX0) (T := TX0) (N := 36) rfl in_X0 (by decide) q156 rfl dX0_readsKey_148 hf (fun x21 hf => ?_)
                refine lv_iload_n X.hx X.hb dX0_readsKey_151 rfl (lv_at hl 2 rfl) ?_
                refine r_iast X h dX0_readsKey_152 hf (fun μ22 H locs hf h => ?_)
                refine lv_aload_n X.hx X.hb dX0_readsKey_153 rfl (lv_at hl 1 rfl) ?_
                refine r_getP X h (ci := 0) (k := 16) (C := RX0) (T := TX0) (N := 36) rfl in_X0 (by decide) q158 rfl dX0_readsKey_154 hf (fun i23 hf => ?_)
                refine lv_aload_n X.hx X.hb dX0_readsKey_157 rfl (lv_at hl 1 rfl) ?_
                refine r_getI X h (ci := 0) (k := 14) (C := RX0) (T := TX0) (N := 36) rfl in_X0 (by decide) q156 rfl dX0_readsKey_158 hf (fun x24 hf => ?_)
                refine lv_iload_n X.hx X.hb dX0_readsKey_161 rfl (lv_at hl 3 rfl) ?_
                refine r_iast X h dX0_readsKey_162 hf (fun μ25 H locs hf h => ?_)
                refine lv_aload_n X.hx X.hb dX0_readsKey_163 rfl (lv_at hl 1 rfl) ?_
                refine r_getP X h (ci := 0) (k := 17) (C := RX0) (T := TX0) (N := 36) rfl in_X0 (by decide) q159 rfl dX0_readsKey_164 hf (fun i26 hf => ?_)
                refine lv_aload_n X.hx X.hb dX0_readsKey_167 rfl (lv_at hl 1 rfl) ?_
                refine r_getI X h (ci := 0) (k := 14) (C := RX0) (T := TX0) (N := 36) rfl in_X0 (by decide) q156 rfl dX0_readsKey_168 hf (fun x27 hf => ?_)
                refine lv_bipush (v := 10) X.hx X.hb dX0_readsKey_171 (by decide) ?_
                refine lv_iload X.hx X.hb dX0_readsKey_173 (lv_at hl 4 rfl) ?_
                refine lv_imul X.hx X.hb dX0_readsKey_175 ?_
                refine lv_iload X.hx X.hb dX0_readsKey_176 (lv_at hl 5 rfl) ?_
                refine lv_iadd X.hx X.hb dX0_readsKey_178 ?_
                refine r_iast X h dX0_readsKey_179 hf (fun μ28 H locs hf h => ?_)
                refine lv_aload_n X.hx X.hb dX0_readsKey_180 rfl (lv_at hl 1 rfl) ?_
                refine r_getP X h (ci := 0) (k := 18) (C := RX0) (T := TX0) (N := 36) rfl in_X0 (by decide) q160 rfl dX0_readsKey_181 hf (fun i29 hf => ?_)
                refine lv_aload_n X.hx X.hb dX0_readsKey_184 rfl (lv_at hl 1 rfl) ?_
                refine r_getI X h (ci := 0) (k := 14) (C := RX0) (T := TX0) (N := 36) rfl in_X0 (by decide) q156 rfl dX0_readsKey_185 hf (fun x30 hf => ?_)
                refine lv_iload X.hx X.hb dX0_readsKey_188 (lv_at hl 0 rfl) ?_
                refine r_iast X h dX0_readsKey_190 hf (fun μ31 H locs hf h => ?_)
                refine lv_aload_n X.hx X.hb dX0_readsKey_191 rfl (lv_at hl 1 rfl) ?_
                refine lv_dup X.hx X.hb dX0_readsKey_192 rfl ?_
                refine r_getI X h (ci := 0) (k := 14) (C := RX0) (T := TX0) (N := 36) rfl in_X0 (by decide) q156 rfl dX0_readsKey_193 hf (fun x32 hf => ?_)
                refine lv_iconst (v := 1) X.hx X.hb dX0_readsKey_196 (by decide) ?_
                refine lv_iadd X.hx X.hb dX0_readsKey_197 ?_
                refine r_put X h (ci := 0) (k := 14) (C := RX0) (T := TX0) (N := 36) (ty0 := tyX0) (ty := .int) (v := .int (x32 + 1)) rfl in_X0 tyX0_ok nmX0 (by decide) q156 rfl rfl (by decide +kernel) rfl rfl (fun j hj => by cases hj) dX0_readsKey_198 hf (fun μ33 H locs hf h => ?_)
                refine lv_iconst (v := 1) X.hx X.hb dX0_readsKey_201 (by decide) ?_
                exact r_rz X h hr hlk (Nat.le_of_ble_eq_true rfl) (Nat.le_of_ble_eq_true rfl) dX0_readsKey_202 hf
              · replace hf := gif_t hf hc
                clear hc
                refine lv_iconst (v := 0) X.hx X.hb dX0_readsKey_141 (by decide) ?_
                exact r_rz X h hr hlk (Nat.le_of_ble_eq_true rfl) (Nat.le_of_ble_eq_true rfl) dX0_readsKey_142 hf
            clear ej19
            refine lv_icmp_ne (tgt := 127) X.hx X.hb dX0_readsKey_119 (by decide) (fun hc => ?_) (fun hc => ?_)
            · replace hf := gif_f hf hc
              clear hc
              refine lv_aload_n X.hx X.hb dX0_readsKey_127 rfl (lv_at hl 1 rfl) ?_
              refine lv_iconst (v := 0) X.hx X.hb dX0_readsKey_128 (by decide) ?_
              refine r_cVI (As := [.int 0]) (rest := []) (C := RX0) (T := TX0) (N := 36) X h hf (fun res hres => wX0_readsFigure l Γ ad _ b0 0 res hres) rfl (cwV 1 X.hts (lw_V q465 q467 qs7 q82 q468) rfl rfl rfl (by decide +kernel) ⟨Nat.le_of_ble_eq_true rfl, Nat.le_of_ble_eq_true rfl⟩) rfl ⟨hl.1, Nat.le_of_ble_eq_true rfl, Nat.le_of_ble_eq_true rfl, Nat.le_of_ble_eq_true rfl⟩ rfl dX0_readsKey_129 (fun x34 μ35 H locs hf h => ?_)
              exact hj19 _ _ _ _ _ hf h (lv_sub hl [1, 2, 3, 4, 0] rfl)
            · replace hf := gif_t hf hc
              clear hc
              refine lv_bipush (v := (-9)) X.hx X.hb dX0_readsKey_122 (by decide) ?_
              refine lv_goto (tgt := 132) X.hx X.hb dX0_readsKey_124 (by decide) ?_
              exact hj19 _ _ _ _ _ hf h (lv_sub hl [1, 2, 3, 4, 0] rfl)
          clear ej16
          refine lv_icmp_ne (tgt := 108) X.hx X.hb dX0_readsKey_100 (by decide) (fun hc => ?_) (fun hc => ?_)
          · replace hf := gif_f hf hc
            clear hc
            refine lv_aload_n X.hx X.hb dX0_readsKey_108 rfl (lv_at hl 1 rfl) ?_
            refine lv_iconst (v := 0) X.hx X.hb dX0_readsKey_109 (by decide) ?_
            refine r_cVI (As := [.int 0]) (rest := []) (C := RX0) (T := TX0) (N := 36) X h hf (fun res hres => wX0_readsFigure l Γ ad _ b0 0 res hres) rfl (cwV 1 X.hts (lw_V q465 q467 qs7 q82 q468) rfl rfl rfl (by decide +kernel) ⟨Nat.le_of_ble_eq_true rfl, Nat.le_of_ble_eq_true rfl⟩) rfl ⟨hl.1, Nat.le_of_ble_eq_true rfl, Nat.le_of_ble_eq_true rfl, Nat.le_of_ble_eq_true rfl⟩ rfl dX0_readsKey_110 (fun x36 μ37 H locs hf h => ?_)
            exact hj16 _ _ _ _ _ hf h (lv_sub hl [1, 2, 3, 0] rfl)
          · replace hf := gif_t hf hc
            clear hc
            refine lv_bipush (v := (-9)) X.hx X.hb dX0_readsKey_103 (by decide) ?_
            refine lv_goto (tgt := 113) X.hx X.hb dX0_readsKey_105 (by decide) ?_
            exact hj16 _ _ _ _ _ hf h (lv_sub hl [1, 2, 3, 0] rfl)
        clear ej13
        refine lv_icmp_ne (tgt := 89) X.hx X.hb dX0_readsKey_81 (by decide) (fun hc => ?_) (fun hc => ?_)
        · replace hf := gif_f hf hc
          clear hc
          refine lv_aload_n X.hx X.hb dX0_readsKey_89 rfl (lv_at hl 2 rfl) ?_
          refine lv_iconst (v := 0) X.hx X.hb dX0_readsKey_90 (by decide) ?_
          refine r_cVI (As := [.int 0]) (rest := []) (C := RX0) (T := TX0) (N := 36) X h hf (fun res hres => wX0_readsFigure l Γ ad _ b0 0 res hres) rfl (cwV 1 X.hts (lw_V q465 q467 qs7 q82 q468) rfl rfl rfl (by decide +kernel) ⟨Nat.le_of_ble_eq_true rfl, Nat.le_of_ble_eq_true rfl⟩) rfl ⟨hl.1, Nat.le_of_ble_eq_true rfl, Nat.le_of_ble_eq_true rfl, Nat.le_of_ble_eq_true rfl⟩ rfl dX0_readsKey_91 (fun x38 μ39 H locs hf h => ?_)
          exact hj13 _ _ _ _ _ hf h (lv_sub hl [2, 3, 0] rfl)
        · replace hf := gif_t hf hc
          clear hc
          refine lv_bipush (v := (-9)) X.hx X.hb dX0_readsKey_84 (by decide) ?_
          refine lv_goto (tgt := 94) X.hx X.hb dX0_readsKey_86 (by decide) ?_
          exact hj13 _ _ _ _ _ hf h (lv_sub hl [2, 3, 0] rfl)
      · replace hf := gif_t hf hc
        clear hc
        refine lv_iconst (v := 0) X.hx X.hb dX0_readsKey_60 (by decide) ?_
        exact r_rz X h hr hlk (Nat.le_of_ble_eq_true rfl) (Nat.le_of_ble_eq_true rfl) dX0_readsKey_61 hf
  clear ej5
  refine r_jn hf (fun j41 ej41 hf => ?_)
  have hj41 : ∀  (μ40 : gM) (H : Heap) (locs : List Loc) (ls : Array Slot), j41  μ40 = some r → gWd Γ A μ0.1 ad μ40 s.heap H locs → lv_has ls 7 [(0, .ref (ad b0)), (1, .int x1)] → W p l e ({ frames := 2, cells := 0, slots := 0, locals := 44 } : Room) s m args below meth c H locs 0 0 (MQ below (gQ0 Γ ad μ0.1 r A) args s 0 0 A) (F0 m 41 ls []) := by
    intro μ40 H locs ls hf h hl
    rw [ej41] at hf
    refine lv_iconst (v := 1) X.hx X.hb dX0_readsKey_41 (by decide) ?_
    refine lv_goto (tgt := 46) X.hx X.hb dX0_readsKey_42 (by decide) ?_
    exact hj5 _ _ _ _ _ hf h (lv_sub hl [0, 1] rfl)
  clear ej41
  refine lv_icmp_eq (tgt := 41) X.hx X.hb dX0_readsKey_8 (by decide) (fun hc => ?_) (fun hc => ?_)
  · replace hf := gif_t hf hc
    clear hc
    exact hj41 _ _ _ _ hf h (lv_sub hl [1, 0] rfl)
  · replace hf := gif_f hf hc
    clear hc
    refine lv_iload_n X.hx X.hb dX0_readsKey_11 rfl (lv_at hl 0 rfl) ?_
    refine lv_bipush (v := 98) X.hx X.hb dX0_readsKey_12 (by decide) ?_
    refine lv_icmp_eq (tgt := 41) X.hx X.hb dX0_readsKey_14 (by decide) (fun hc => ?_) (fun hc => ?_)
    · replace hf := gif_t hf hc
      clear hc
      exact hj41 _ _ _ _ hf h (lv_sub hl [1, 0] rfl)
    · replace hf := gif_f hf hc
      clear hc
      refine lv_iload_n X.hx X.hb dX0_readsKey_17 rfl (lv_at hl 0 rfl) ?_
      refine lv_bipush (v := 115) X.hx X.hb dX0_readsKey_18 (by decide) ?_
      refine lv_icmp_eq (tgt := 41) X.hx X.hb dX0_readsKey_20 (by decide) (fun hc => ?_) (fun hc => ?_)
      · replace hf := gif_t hf hc
        clear hc
        exact hj41 _ _ _ _ hf h (lv_sub hl [1, 0] rfl)
      · replace hf := gif_f hf hc
        clear hc
        refine lv_iload_n X.hx X.hb dX0_readsKey_23 rfl (lv_at hl 0 rfl) ?_
        refine lv_bipush (v := 99) X.hx X.hb dX0_readsKey_24 (by decide) ?_
        refine lv_icmp_eq (tgt := 41) X.hx X.hb dX0_readsKey_26 (by decide) (fun hc => ?_) (fun hc => ?_)
        · replace hf := gif_t hf hc
          clear hc
          exact hj41 _ _ _ _ hf h (lv_sub hl [1, 0] rfl)
        · replace hf := gif_f hf hc
          clear hc
          refine lv_iload_n X.hx X.hb dX0_readsKey_29 rfl (lv_at hl 0 rfl) ?_
          refine lv_bipush (v := 100) X.hx X.hb dX0_readsKey_30 (by decide) ?_
          refine lv_icmp_eq (tgt := 41) X.hx X.hb dX0_readsKey_32 (by decide) (fun hc => ?_) (fun hc => ?_)
          · replace hf := gif_t hf hc
            clear hc
            exact hj41 _ _ _ _ hf h (lv_sub hl [1, 0] rfl)
          · replace hf := gif_f hf hc
            clear hc
            refine lv_iload_n X.hx X.hb dX0_readsKey_35 rfl (lv_at hl 0 rfl) ?_
            refine lv_bipush (v := 114) X.hx X.hb dX0_readsKey_36 (by decide) ?_
            refine lv_icmp_ne (tgt := 45) X.hx X.hb dX0_readsKey_38 (by decide) (fun hc => ?_) (fun hc => ?_)
            · replace hf := gif_f hf hc
              clear hc
              refine lv_iconst (v := 0) X.hx X.hb dX0_readsKey_45 (by decide) ?_
              exact hj5 _ _ _ _ _ hf h (lv_sub hl [1, 0] rfl)
            · replace hf := gif_t hf hc
              clear hc
              exact hj41 _ _ _ _ hf h (lv_sub hl [1, 0] rfl)
/-! X0_goesOn -/
def fX0_goesOn_L20 (b0 : Nat) (b1 : Nat) (kx80 : gM → gR) (kx65 : gM → gR) (kx75 : gM → gR) : Nat → gM → gR
  | 0, _ => none
  | n6 + 1, μ5 => gI (gfld μ5 b0 0 12) fun x7 => glen μ5 1 b1 fun x8 => if x8 ≤ x7 then (kx80 μ5) else (gis μ5 b0 0 <| cI (fX0_here μ5 b0) fun x9 μ10 => if x9 = 32 then (gI (gfld μ10 b0 0 12) fun x16 => gpf μ10 b0 0 12 (.int (x16 + 1)) fun μ17 => fX0_goesOn_L20 b0 b1 kx80 kx65 kx75 n6 μ17) else (gI (gfld μ10 b0 0 13) fun x11 => if x11 = 0 then (gis μ10 b0 0 <| cI (fX0_readsHead μ10 b0) fun x14 μ15 => if x14 = 0 then (kx65 μ15) else (fX0_goesOn_L20 b0 b1 kx80 kx65 kx75 n6 μ15)) else (gis μ10 b0 0 <| cI (fX0_readsKey μ10 b0) fun x12 μ13 => if x12 = 0 then (kx75 μ13) else (fX0_goesOn_L20 b0 b1 kx80 kx65 kx75 n6 μ13))))
set_option maxHeartbeats 4000000 in
theorem wX0_goesOn_L20 {p : Program} {e : Env} {s : State} {m : MethodId} {args : Array Value} {below : List Frame} {meth : Method} {c : Code} {Γ : gG} {A : Nat → Prop} {nz : Nat} {ad : Nat → Nat} {r : Option Value × gM} (l : Launch) (b0 : Nat) (b1 : Nat) (kx80 : gM → gR) (kx65 : gM → gR) (kx75 : gM → gR) (X : gX p m c cX0_goesOn 2 s args "SandPiano" Γ A) (hr : meth.sig.returnType = (some .int)) (hlk : meth.locks = false) (hk80 : ∀  (μ : gM) (H : Heap) (locs : List Loc) (ls : Array Slot), kx80  μ = some r → gWd Γ A nz ad μ s.heap H locs → lv_has ls 2 [(0, .ref (ad b0)), (1, .ref (ad b1))] → W p l e ({ frames := 3, cells := 0, slots := 0, locals := 70 } : Room) s m args below meth c H locs 0 0 (MQ below (gQ0 Γ ad nz r A) args s 0 0 A) (F0 m 80 ls [])) (hk65 : ∀  (μ : gM) (H : Heap) (locs : List Loc) (ls : Array Slot), kx65  μ = some r → gWd Γ A nz ad μ s.heap H locs → lv_has ls 2 [(0, .ref (ad b0))] → W p l e ({ frames := 3, cells := 0, slots := 0, locals := 70 } : Room) s m args below meth c H locs 0 0 (MQ below (gQ0 Γ ad nz r A) args s 0 0 A) (F0 m 65 ls [])) (hk75 : ∀  (μ : gM) (H : Heap) (locs : List Loc) (ls : Array Slot), kx75  μ = some r → gWd Γ A nz ad μ s.heap H locs → lv_has ls 2 [(0, .ref (ad b0))] → W p l e ({ frames := 3, cells := 0, slots := 0, locals := 70 } : Room) s m args below meth c H locs 0 0 (MQ below (gQ0 Γ ad nz r A) args s 0 0 A) (F0 m 75 ls [])) : ∀ (n6 : Nat)  (μ5 : gM) (H : Heap) (locs : List Loc) (ls : Array Slot), fX0_goesOn_L20 b0 b1 kx80 kx65 kx75 n6  μ5 = some r → gWd Γ A nz ad μ5 s.heap H locs → lv_has ls 2 [(0, .ref (ad b0)), (1, .ref (ad b1))] → W p l e ({ frames := 3, cells := 0, slots := 0, locals := 70 } : Room) s m args below meth c H locs 0 0 (MQ below (gQ0 Γ ad nz r A) args s 0 0 A) (F0 m 20 ls []) := by
  intro n6
  induction n6 with
  | zero =>
    intro μ5 H locs ls hf h hl
    have hf : (none : gR) = some r := hf
    cases hf
  | succ n6 ih =>
    intro μ5 H locs ls hf h hl
    rw [fX0_goesOn_L20] at hf
    refine lv_aload_n X.hx X.hb dX0_goesOn_20 rfl (lv_at hl 0 rfl) ?_
    refine r_getI X h (ci := 0) (k := 12) (C := RX0) (T := TX0) (N := 36) rfl in_X0 (by decide) q154 rfl dX0_goesOn_21 hf (fun x7 hf => ?_)
    refine lv_aload_n X.hx X.hb dX0_goesOn_24 rfl (lv_at hl 1 rfl) ?_
    refine r_len X h (t := 1) rfl dX0_goesOn_25 hf (fun x8 hf => ?_)
    refine lv_icmp_ge (tgt := 80) X.hx X.hb dX0_goesOn_26 (by decide) (fun hc => ?_) (fun hc => ?_)
    · replace hf := gif_t hf hc
      clear hc
      exact hk80 _ _ _ _ hf h (lv_sub hl [0, 1] rfl)
    · replace hf := gif_f hf hc
      clear hc
      refine lv_aload_n X.hx X.hb dX0_goesOn_29 rfl (lv_at hl 0 rfl) ?_
      refine r_cVI (As := []) (rest := []) (C := RX0) (T := TX0) (N := 36) X h hf (fun res hres => wX0_here l Γ ad _ b0 res hres) rfl (cwV 0 X.hts (lw_V q457 q459 qs5 q82 q460) rfl rfl rfl (by decide +kernel) ⟨Nat.le_of_ble_eq_true rfl, Nat.le_of_ble_eq_true rfl⟩) rfl ⟨hl.1, Nat.le_of_ble_eq_true rfl, Nat.le_of_ble_eq_true rfl, Nat.le_of_ble_eq_true rfl⟩ rfl dX0_goesOn_30 (fun x9 μ10 H locs hf h => ?_)
      refine lv_bipush (v := 32) X.hx X.hb dX0_goesOn_33 (by decide) ?_
      refine lv_icmp_ne (tgt := 51) X.hx X.hb dX0_goesOn_35 (by decide) (fun hc => ?_) (fun hc => ?_)
      · replace hf := gif_f hf hc
        clear hc
        refine lv_aload_n X.hx X.hb dX0_goesOn_51 rfl (lv_at hl 0 rfl) ?_
        refine r_getI X h (ci := 0) (k := 13) (C := RX0) (T := TX0) (N := 36) rfl in_X0 (by decide) q155 rfl dX0_goesOn_52 hf (fun x11 hf => ?_)
        refine lv_if_ne (tgt := 68) X.hx X.hb dX0_goesOn_55 (by decide) (fun hc => ?_) (fun hc => ?_)
        · replace hf := gif_f hf hc
          clear hc
          refine lv_aload_n X.hx X.hb dX0_goesOn_68 rfl (lv_at hl 0 rfl) ?_
          refine r_cVI (As := []) (rest := []) (C := RX0) (T := TX0) (N := 36) X h hf (fun res hres => wX0_readsKey l Γ ad _ b0 res hres) rfl (cwV 0 X.hts (lw_V q469 q471 qs8 q82 q472) rfl rfl rfl (by decide +kernel) ⟨Nat.le_of_ble_eq_true rfl, Nat.le_of_ble_eq_true rfl⟩) rfl ⟨hl.1, Nat.le_of_ble_eq_true rfl, Nat.le_of_ble_eq_true rfl, Nat.le_of_ble_eq_true rfl⟩ rfl dX0_goesOn_69 (fun x12 μ13 H locs hf h => ?_)
          refine lv_if_ne (tgt := 20) X.hx X.hb dX0_goesOn_72 (by decide) (fun hc => ?_) (fun hc => ?_)
          · replace hf := gif_f hf hc
            clear hc
            exact ih _ _ _ _ hf h (lv_sub hl [0, 1] rfl)
          · replace hf := gif_t hf hc
            clear hc
            exact hk75 _ _ _ _ hf h (lv_sub hl [0] rfl)
        · replace hf := gif_t hf hc
          clear hc
          refine lv_aload_n X.hx X.hb dX0_goesOn_58 rfl (lv_at hl 0 rfl) ?_
          refine r_cVI (As := []) (rest := []) (C := RX0) (T := TX0) (N := 36) X h hf (fun res hres => wX0_readsHead l Γ ad _ b0 res hres) rfl (cwV 0 X.hts (lw_V q461 q463 qs6 q82 q464) rfl rfl rfl (by decide +kernel) ⟨Nat.le_of_ble_eq_true rfl, Nat.le_of_ble_eq_true rfl⟩) rfl ⟨hl.1, Nat.le_of_ble_eq_true rfl, Nat.le_of_ble_eq_true rfl, Nat.le_of_ble_eq_true rfl⟩ rfl dX0_goesOn_59 (fun x14 μ15 H locs hf h => ?_)
          refine lv_if_ne (tgt := 20) X.hx X.hb dX0_goesOn_62 (by decide) (fun hc => ?_) (fun hc => ?_)
          · replace hf := gif_f hf hc
            clear hc
            exact ih _ _ _ _ hf h (lv_sub hl [0, 1] rfl)
          · replace hf := gif_t hf hc
            clear hc
            exact hk65 _ _ _ _ hf h (lv_sub hl [0] rfl)
      · replace hf := gif_t hf hc
        clear hc
        refine lv_aload_n X.hx X.hb dX0_goesOn_38 rfl (lv_at hl 0 rfl) ?_
        refine lv_dup X.hx X.hb dX0_goesOn_39 rfl ?_
        refine r_getI X h (ci := 0) (k := 12) (C := RX0) (T := TX0) (N := 36) rfl in_X0 (by decide) q154 rfl dX0_goesOn_40 hf (fun x16 hf => ?_)
        refine lv_iconst (v := 1) X.hx X.hb dX0_goesOn_43 (by decide) ?_
        refine lv_iadd X.hx X.hb dX0_goesOn_44 ?_
        refine r_put X h (ci := 0) (k := 12) (C := RX0) (T := TX0) (N := 36) (ty0 := tyX0) (ty := .int) (v := .int (x16 + 1)) rfl in_X0 tyX0_ok nmX0 (by decide) q154 rfl rfl (by decide +kernel) rfl rfl (fun j hj => by cases hj) dX0_goesOn_45 hf (fun μ17 H locs hf h => ?_)
        refine lv_goto (tgt := 20) X.hx X.hb dX0_goesOn_48 (by decide) ?_
        exact ih _ _ _ _ hf h (lv_sub hl [0, 1] rfl)
def fX0_goesOn (μ0 : gM) (b0 : Nat) (b1 : Nat) : gR := glv μ0 b1 <| gpf μ0 b0 0 11 (.ref b1) fun μ1 => gpf μ1 b0 0 12 (.int 0) fun μ2 => gpf μ2 b0 0 13 (.int 0) fun μ3 => gpf μ3 b0 0 14 (.int 0) fun μ4 => fX0_goesOn_L20 b0 b1 (fun (μ18 : gM) => gI (gfld μ18 b0 0 13) fun x19 => if x19 = 0 then (glen μ18 1 b1 fun x20 => some (some (.int x20), μ18)) else (some (some (.int (-9)), μ18))) (fun (μ21 : gM) => gI (gfld μ21 b0 0 12) fun x22 => some (some (.int x22), μ21)) (fun (μ23 : gM) => gI (gfld μ23 b0 0 12) fun x24 => some (some (.int x24), μ23)) 10000 μ4
set_option maxHeartbeats 4000000 in
theorem wX0_goesOn (l : Launch) (Γ : gG) (ad : Nat → Nat) (μ0 : gM) (b0 : Nat) (b1 : Nat) (r : Option Value × gM) (hf : fX0_goesOn μ0 b0 b1 = some r) : gMt0 l Γ yX0_goesOn (ws_ yX0_goesOn cX0_goesOn 2 (some .int)) ({ frames := 3, cells := 0, slots := 0, locals := 70 } : Room) 0 0 ad μ0 [.ref (ad b0), .ref (ad b1)] r := by
  intro sz
  refine g_start (maxL := 2) (ret := (some .int)) (by decide) rfl g_all (Nat.le_of_ble_eq_true rfl) ?_
  intro p e s m below meth c ls hr hlk hnm X h hl
  generalize gA ad μ0 sz = A at X h ⊢
  generalize ([.ref (ad b0), .ref (ad b1)] : List Value).toArray = args at X ⊢
  have X : gX p m c cX0_goesOn 2 s args "SandPiano" Γ A := X
  have hl : lv_has ls 2 [(0, .ref (ad b0)), (1, .ref (ad b1))] := hl
  show W p l e ({ frames := 3, cells := 0, slots := 0, locals := 70 } : Room) s m args below meth c s.heap [] 0 0 (MQ below (gQ0 Γ ad μ0.1 r A) args s 0 0 A) (F0 m 0 ls [])
  unfold fX0_goesOn at hf
  refine lv_aload_n X.hx X.hb dX0_goesOn_0 rfl (lv_at hl 0 rfl) ?_
  refine lv_aload_n X.hx X.hb dX0_goesOn_1 rfl (lv_at hl 1 rfl) ?_
  obtain ⟨hlv, hf⟩ := glv_some hf
  refine r_put X h (ci := 0) (k := 11) (C := RX0) (T := TX0) (N := 36) (ty0 := tyX0) (ty := .array .byte) (v := .ref b1) rfl in_X0 tyX0_ok nmX0 (by decide) q153 rfl rfl (by decide +kernel) rfl rfl (fun j hj => by cases hj; exact hlv) dX0_goesOn_2 hf (fun μ1 H locs hf h => ?_)
  refine lv_aload_n X.hx X.hb dX0_goesOn_5 rfl (lv_at hl 0 rfl) ?_
  refine lv_iconst (v := 0) X.hx X.hb dX0_goesOn_6 (by decide) ?_
  refine r_put X h (ci := 0) (k := 12) (C := RX0) (T := TX0) (N := 36) (ty0 := tyX0) (ty := .int) (v := .int 0) rfl in_X0 tyX0_ok nmX0 (by decide) q154 rfl rfl (by decide +kernel) rfl rfl (fun j hj => by cases hj) dX0_goesOn_7 hf (fun μ2 H locs hf h => ?_)
  refine lv_aload_n X.hx X.hb dX0_goesOn_10 rfl (lv_at hl 0 rfl) ?_
  refine lv_iconst (v := 0) X.hx X.hb dX0_goesOn_11 (by decide) ?_
  refine r_put X h (ci := 0) (k := 13) (C := RX0) (T := TX0) (N := 36) (ty0 := tyX0) (ty := .int) (v := .int 0) rfl in_X0 tyX0_ok nmX0 (by decide) q155 rfl rfl (by decide +kernel) rfl rfl (fun j hj => by cases hj) dX0_goesOn_12 hf (fun μ3 H locs hf h => ?_)
  refine lv_aload_n X.hx X.hb dX0_goesOn_15 rfl (lv_at hl 0 rfl) ?_
  refine lv_iconst (v := 0) X.hx X.hb dX0_goesOn_16 (by decide) ?_
  refine r_put X h (ci := 0) (k := 14) (C := RX0) (T := TX0) (N := 36) (ty0 := tyX0) (ty := .int) (v := .int 0) rfl in_X0 tyX0_ok nmX0 (by decide) q156 rfl rfl (by decide +kernel) rfl rfl (fun j hj => by cases hj) dX0_goesOn_17 hf (fun μ4 H locs hf h => ?_)
  refine wX0_goesOn_L20 l b0 b1 _ _ _ X hr hlk (fun μ18 H locs ls hf h hl => ?_) (fun μ21 H locs ls hf h hl => ?_) (fun μ23 H locs ls hf h hl => ?_) 10000 _ _ _ _ hf h (lv_sub hl [0, 1] rfl)
  · refine lv_aload_n X.hx X.hb dX0_goesOn_80 rfl (lv_at hl 0 rfl) ?_
    refine r_getI X h (ci := 0) (k := 13) (C := RX0) (T := TX0) (N := 36) rfl in_X0 (by decide) q155 rfl dX0_goesOn_81 hf (fun x19 hf => ?_)
    refine lv_if_ne (tgt := 92) X.hx X.hb dX0_goesOn_84 (by decide) (fun hc => ?_) (fun hc => ?_)
    · replace hf := gif_f hf hc
      clear hc
      refine lv_bipush (v := (-9)) X.hx X.hb dX0_goesOn_92 (by decide) ?_
      exact r_ri X h hr hlk (Nat.le_of_ble_eq_true rfl) (Nat.le_of_ble_eq_true rfl) dX0_goesOn_94 hf
    · replace hf := gif_t hf hc
      clear hc
      refine lv_aload_n X.hx X.hb dX0_goesOn_87 rfl (lv_at hl 1 rfl) ?_
      refine r_len X h (t := 1) rfl dX0_goesOn_88 hf (fun x20 hf => ?_)
      refine lv_goto (tgt := 94) X.hx X.hb dX0_goesOn_89 (by decide) ?_
      exact r_ri X h hr hlk (Nat.le_of_ble_eq_true rfl) (Nat.le_of_ble_eq_true rfl) dX0_goesOn_94 hf
  · refine lv_goto (tgt := 75) X.hx X.hb dX0_goesOn_65 (by decide) ?_
    refine lv_aload_n X.hx X.hb dX0_goesOn_75 rfl (lv_at hl 0 rfl) ?_
    refine r_getI X h (ci := 0) (k := 12) (C := RX0) (T := TX0) (N := 36) rfl in_X0 (by decide) q154 rfl dX0_goesOn_76 hf (fun x22 hf => ?_)
    exact r_ri X h hr hlk (Nat.le_of_ble_eq_true rfl) (Nat.le_of_ble_eq_true rfl) dX0_goesOn_79 hf
  · refine lv_aload_n X.hx X.hb dX0_goesOn_75 rfl (lv_at hl 0 rfl) ?_
    refine r_getI X h (ci := 0) (k := 12) (C := RX0) (T := TX0) (N := 36) rfl in_X0 (by decide) q154 rfl dX0_goesOn_76 hf (fun x24 hf => ?_)
    exact r_ri X h hr hlk (Nat.le_of_ble_eq_true rfl) (Nat.le_of_ble_eq_true rfl) dX0_goesOn_79 hf
/-! X0_isText -/
def fX0_isText (μ0 : gM) (a1 : Int32) : gR := cI (fX0_isIn μ0 a1 0 3) fun x1 μ2 => rZ x1 μ2
set_option maxHeartbeats 4000000 in
theorem wX0_isText (l : Launch) (Γ : gG) (ad : Nat → Nat) (μ0 : gM) (a1 : Int32) (r : Option Value × gM) (hf : fX0_isText μ0 a1 = some r) : gMt0 l Γ yX0_isText (ws_ yX0_isText cX0_isText 1 (some .boolean)) ({ frames := 1, cells := 0, slots := 0, locals := 22 } : Room) 0 0 ad μ0 [.int a1] r := by
  intro sz
  refine g_start (maxL := 1) (ret := (some .boolean)) (by decide) rfl g_all (Nat.le_of_ble_eq_true rfl) ?_
  intro p e s m below meth c ls hr hlk hnm X h hl
  generalize gA ad μ0 sz = A at X h ⊢
  generalize ([.int a1] : List Value).toArray = args at X ⊢
  have X : gX p m c cX0_isText 1 s args "SandPiano" Γ A := X
  have hl : lv_has ls 1 [(0, .int a1)] := hl
  show W p l e ({ frames := 1, cells := 0, slots := 0, locals := 22 } : Room) s m args below meth c s.heap [] 0 0 (MQ below (gQ0 Γ ad μ0.1 r A) args s 0 0 A) (F0 m 0 ls [])
  unfold fX0_isText at hf
  refine lv_iload_n X.hx X.hb dX0_isText_0 rfl (lv_at hl 0 rfl) ?_
  refine lv_iconst (v := 0) X.hx X.hb dX0_isText_1 (by decide) ?_
  refine lv_iconst (v := 3) X.hx X.hb dX0_isText_2 (by decide) ?_
  refine r_cSI (As := [.int a1, .int 0, .int 3]) (rest := []) X h hf (fun res hres => wX0_isIn l Γ ad _ a1 0 3 res hres) (va_cwS 3 X.hts (lw_S q344 q345 q82 q346) rfl rfl rfl (by decide +kernel) ⟨Nat.le_of_ble_eq_true rfl, Nat.le_of_ble_eq_true rfl⟩) rfl ⟨hl.1, Nat.le_of_ble_eq_true rfl, Nat.le_of_ble_eq_true rfl, Nat.le_of_ble_eq_true rfl⟩ rfl dX0_isText_3 (fun x1 μ2 H locs hf h => ?_)
  exact r_rz X h hr hlk (Nat.le_of_ble_eq_true rfl) (Nat.le_of_ble_eq_true rfl) dX0_isText_6 hf
/-! X0_fault -/
def fX0_fault (μ0 : gM) (b0 : Nat) (a1 : Int32) : gR := cI (fX0_isText μ0 a1) fun x1 μ2 => if x1 = 0 then (some (some (.int (-1)), μ2)) else (gP (gfld μ2 b0 0 6) fun i3 => gaQ μ2 4 i3 a1 fun o4 => gnu o4 (gis μ2 b0 0 <| cI (fX0_found μ2 b0 1) fun x10 μ11 => some (some (.int x10), μ11)) (gP (gfld μ2 b0 0 6) fun i5 => gaQ μ2 4 i5 a1 fun o6 => gnn o6 fun i7 => gis μ2 b0 0 <| cI (fX0_goesOn μ2 b0 i7) fun x8 μ9 => some (some (.int x8), μ9)))
set_option maxHeartbeats 4000000 in
theorem wX0_fault (l : Launch) (Γ : gG) (ad : Nat → Nat) (μ0 : gM) (b0 : Nat) (a1 : Int32) (r : Option Value × gM) (hf : fX0_fault μ0 b0 a1 = some r) : gMt0 l Γ yX0_fault (ws_ yX0_fault cX0_fault 2 (some .int)) ({ frames := 4, cells := 0, slots := 0, locals := 91 } : Room) 0 0 ad μ0 [.ref (ad b0), .int a1] r := by
  intro sz
  refine g_start (maxL := 2) (ret := (some .int)) (by decide) rfl g_all (Nat.le_of_ble_eq_true rfl) ?_
  intro p e s m below meth c ls hr hlk hnm X h hl
  generalize gA ad μ0 sz = A at X h ⊢
  generalize ([.ref (ad b0), .int a1] : List Value).toArray = args at X ⊢
  have X : gX p m c cX0_fault 2 s args "SandPiano" Γ A := X
  have hl : lv_has ls 2 [(0, .ref (ad b0)), (1, .int a1)] := hl
  show W p l e ({ frames := 4, cells := 0, slots := 0, locals := 91 } : Room) s m args below meth c s.heap [] 0 0 (MQ below (gQ0 Γ ad μ0.1 r A) args s 0 0 A) (F0 m 0 ls [])
  unfold fX0_fault at hf
  refine lv_iload_n X.hx X.hb dX0_fault_0 rfl (lv_at hl 1 rfl) ?_
  refine r_cSI (As := [.int a1]) (rest := []) X h hf (fun res hres => wX0_isText l Γ ad _ a1 res hres) (va_cwS 1 X.hts (lw_S q442 q443 q82 q444) rfl rfl rfl (by decide +kernel) ⟨Nat.le_of_ble_eq_true rfl, Nat.le_of_ble_eq_true rfl⟩) rfl ⟨hl.1, Nat.le_of_ble_eq_true rfl, Nat.le_of_ble_eq_true rfl, Nat.le_of_ble_eq_true rfl⟩ rfl dX0_fault_1 (fun x1 μ2 H locs hf h => ?_)
  refine lv_if_ne (tgt := 9) X.hx X.hb dX0_fault_4 (by decide) (fun hc => ?_) (fun hc => ?_)
  · replace hf := gif_f hf hc
    clear hc
    refine lv_aload_n X.hx X.hb dX0_fault_9 rfl (lv_at hl 0 rfl) ?_
    refine r_getP X h (ci := 0) (k := 6) (C := RX0) (T := TX0) (N := 36) rfl in_X0 (by decide) q147 rfl dX0_fault_10 hf (fun i3 hf => ?_)
    refine lv_iload_n X.hx X.hb dX0_fault_13 rfl (lv_at hl 1 rfl) ?_
    refine r_aald X h (t := 4) rfl rfl dX0_fault_14 hf (fun o4 hf => ?_)
    refine r_ifnn (tgt := 26) X.hx X.hb dX0_fault_15 (by decide) hf (fun hf => ?_) (fun hf => ?_)
    · refine lv_aload_n X.hx X.hb dX0_fault_26 rfl (lv_at hl 0 rfl) ?_
      refine lv_aload_n X.hx X.hb dX0_fault_27 rfl (lv_at hl 0 rfl) ?_
      refine r_getP X h (ci := 0) (k := 6) (C := RX0) (T := TX0) (N := 36) rfl in_X0 (by decide) q147 rfl dX0_fault_28 hf (fun i5 hf => ?_)
      refine lv_iload_n X.hx X.hb dX0_fault_31 rfl (lv_at hl 1 rfl) ?_
      refine r_aald X h (t := 4) rfl rfl dX0_fault_32 hf (fun o6 hf => ?_)
      refine r_nn hf (fun i7 hf => ?_)
      refine r_cVI (As := [.ref (ad i7)]) (rest := []) (C := RX0) (T := TX0) (N := 36) X h hf (fun res hres => wX0_goesOn l Γ ad _ b0 i7 res hres) rfl (cwV 1 X.hts (lw_V q453 q455 qs4 q82 q456) rfl rfl rfl (by decide +kernel) ⟨Nat.le_of_ble_eq_true rfl, Nat.le_of_ble_eq_true rfl⟩) rfl ⟨hl.1, Nat.le_of_ble_eq_true rfl, Nat.le_of_ble_eq_true rfl, Nat.le_of_ble_eq_true rfl⟩ rfl dX0_fault_33 (fun x8 μ9 H locs hf h => ?_)
      exact r_ri X h hr hlk (Nat.le_of_ble_eq_true rfl) (Nat.le_of_ble_eq_true rfl) dX0_fault_36 hf
    · refine lv_aload_n X.hx X.hb dX0_fault_18 rfl (lv_at hl 0 rfl) ?_
      refine lv_iconst (v := 1) X.hx X.hb dX0_fault_19 (by decide) ?_
      refine r_cVI (As := [.int 1]) (rest := []) (C := RX0) (T := TX0) (N := 36) X h hf (fun res hres => wX0_found l Γ ad _ b0 1 res hres) rfl (cwV 1 X.hts (lw_V q347 q349 qs2 q82 q350) rfl rfl rfl (by decide +kernel) ⟨Nat.le_of_ble_eq_true rfl, Nat.le_of_ble_eq_true rfl⟩) rfl ⟨hl.1, Nat.le_of_ble_eq_true rfl, Nat.le_of_ble_eq_true rfl, Nat.le_of_ble_eq_true rfl⟩ rfl dX0_fault_20 (fun x10 μ11 H locs hf h => ?_)
      refine lv_goto (tgt := 36) X.hx X.hb dX0_fault_23 (by decide) ?_
      exact r_ri X h hr hlk (Nat.le_of_ble_eq_true rfl) (Nat.le_of_ble_eq_true rfl) dX0_fault_36 hf
  · replace hf := gif_t hf hc
    clear hc
    refine lv_iconst (v := (-1)) X.hx X.hb dX0_fault_7 (by decide) ?_
    exact r_ri X h hr hlk (Nat.le_of_ble_eq_true rfl) (Nat.le_of_ble_eq_true rfl) dX0_fault_8 hf
/-! X0_finding -/
def fX0_finding (μ0 : gM) (b0 : Nat) : gR := gI (gfld μ0 b0 0 0) fun x1 => some (some (.int x1), μ0)
set_option maxHeartbeats 4000000 in
theorem wX0_finding (l : Launch) (Γ : gG) (ad : Nat → Nat) (μ0 : gM) (b0 : Nat) (r : Option Value × gM) (hf : fX0_finding μ0 b0 = some r) : gMt0 l Γ yX0_finding (ws_ yX0_finding cX0_finding 1 (some .int)) ({ frames := 0, cells := 0, slots := 0, locals := 0 } : Room) 0 0 ad μ0 [.ref (ad b0)] r := by
  intro sz
  refine g_start (maxL := 1) (ret := (some .int)) (by decide) rfl g_all (Nat.le_of_ble_eq_true rfl) ?_
  intro p e s m below meth c ls hr hlk hnm X h hl
  generalize gA ad μ0 sz = A at X h ⊢
  generalize ([.ref (ad b0)] : List Value).toArray = args at X ⊢
  have X : gX p m c cX0_finding 1 s args "SandPiano" Γ A := X
  have hl : lv_has ls 1 [(0, .ref (ad b0))] := hl
  show W p l e ({ frames := 0, cells := 0, slots := 0, locals := 0 } : Room) s m args below meth c s.heap [] 0 0 (MQ below (gQ0 Γ ad μ0.1 r A) args s 0 0 A) (F0 m 0 ls [])
  unfold fX0_finding at hf
  refine lv_aload_n X.hx X.hb dX0_finding_0 rfl (lv_at hl 0 rfl) ?_
  refine r_getI X h (ci := 0) (k := 0) (C := RX0) (T := TX0) (N := 36) rfl in_X0 (by decide) q141 rfl dX0_finding_1 hf (fun x1 hf => ?_)
  exact r_ri X h hr hlk (Nat.le_of_ble_eq_true rfl) (Nat.le_of_ble_eq_true rfl) dX0_finding_4 hf
/-! X0_findings -/
def fX0_findings (μ0 : gM) (b0 : Nat) (a1 : Int32) : gR := cI (fX0_isIn μ0 a1 1 5) fun x1 μ2 => if x1 = 0 then (some (some (.int (-1)), μ2)) else (gP (gfld μ2 b0 0 1) fun i3 => gaI μ2 0 i3 a1 fun x4 => some (some (.int x4), μ2))
set_option maxHeartbeats 4000000 in
theorem wX0_findings (l : Launch) (Γ : gG) (ad : Nat → Nat) (μ0 : gM) (b0 : Nat) (a1 : Int32) (r : Option Value × gM) (hf : fX0_findings μ0 b0 a1 = some r) : gMt0 l Γ yX0_findings (ws_ yX0_findings cX0_findings 2 (some .int)) ({ frames := 1, cells := 0, slots := 0, locals := 22 } : Room) 0 0 ad μ0 [.ref (ad b0), .int a1] r := by
  intro sz
  refine g_start (maxL := 2) (ret := (some .int)) (by decide) rfl g_all (Nat.le_of_ble_eq_true rfl) ?_
  intro p e s m below meth c ls hr hlk hnm X h hl
  generalize gA ad μ0 sz = A at X h ⊢
  generalize ([.ref (ad b0), .int a1] : List Value).toArray = args at X ⊢
  have X : gX p m c cX0_findings 2 s args "SandPiano" Γ A := X
  have hl : lv_has ls 2 [(0, .ref (ad b0)), (1, .int a1)] := hl
  show W p l e ({ frames := 1, cells := 0, slots := 0, locals := 22 } : Room) s m args below meth c s.heap [] 0 0 (MQ below (gQ0 Γ ad μ0.1 r A) args s 0 0 A) (F0 m 0 ls [])
  unfold fX0_findings at hf
  refine lv_iload_n X.hx X.hb dX0_findings_0 rfl (lv_at hl 1 rfl) ?_
  refine lv_iconst (v := 1) X.hx X.hb dX0_findings_1 (by decide) ?_
  refine lv_iconst (v := 5) X.hx X.hb dX0_findings_2 (by decide) ?_
  refine r_cSI (As := [.int a1, .int 1, .int 5]) (rest := []) X h hf (fun res hres => wX0_isIn l Γ ad _ a1 1 5 res hres) (va_cwS 3 X.hts (lw_S q344 q345 q82 q346) rfl rfl rfl (by decide +kernel) ⟨Nat.le_of_ble_eq_true rfl, Nat.le_of_ble_eq_true rfl⟩) rfl ⟨hl.1, Nat.le_of_ble_eq_true rfl, Nat.le_of_ble_eq_true rfl, Nat.le_of_ble_eq_true rfl⟩ rfl dX0_findings_3 (fun x1 μ2 H locs hf h => ?_)
  refine lv_if_eq (tgt := 18) X.hx X.hb dX0_findings_6 (by decide) (fun hc => ?_) (fun hc => ?_)
  · replace hf := gif_t hf hc
    clear hc
    refine lv_iconst (v := (-1)) X.hx X.hb dX0_findings_18 (by decide) ?_
    exact r_ri X h hr hlk (Nat.le_of_ble_eq_true rfl) (Nat.le_of_ble_eq_true rfl) dX0_findings_19 hf
  · replace hf := gif_f hf hc
    clear hc
    refine lv_aload_n X.hx X.hb dX0_findings_9 rfl (lv_at hl 0 rfl) ?_
    refine r_getP X h (ci := 0) (k := 1) (C := RX0) (T := TX0) (N := 36) rfl in_X0 (by decide) q142 rfl dX0_findings_10 hf (fun i3 hf => ?_)
    refine lv_iload_n X.hx X.hb dX0_findings_13 rfl (lv_at hl 1 rfl) ?_
    refine r_iald X h dX0_findings_14 hf (fun x4 hf => ?_)
    refine lv_goto (tgt := 19) X.hx X.hb dX0_findings_15 (by decide) ?_
    exact r_ri X h hr hlk (Nat.le_of_ble_eq_true rfl) (Nat.le_of_ble_eq_true rfl) dX0_findings_19 hf
