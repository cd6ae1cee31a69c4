set_option maxRecDepth 100000
/-! X0_countOf -/
def fX0_countOf (μ0 : gM) (b0 : Nat) (a1 : Int32) : gR := if a1 = 0 then (gI (gfld μ0 b0 0 7) fun x1 => some (some (.int x1), μ0)) else if a1 = 1 then (gI (gfld μ0 b0 0 19) fun x2 => some (some (.int x2), μ0)) else if a1 = 2 then (gP (gfld μ0 b0 0 10) fun i3 => gP (gfld μ0 i3 1 0) fun i4 => gaI μ0 0 i4 6 fun x5 => some (some (.int x5), μ0)) else if a1 = 3 then (gP (gfld μ0 b0 0 10) fun i6 => gP (gfld μ0 i6 1 0) fun i7 => gaI μ0 0 i7 7 fun x8 => some (some (.int x8), μ0)) else if a1 = 4 then (gP (gfld μ0 b0 0 10) fun i9 => gP (gfld μ0 i9 1 0) fun i10 => gaI μ0 0 i10 8 fun x11 => some (some (.int x11), μ0)) else if a1 = 5 then (gis μ0 b0 0 <| cI (fX0_keysOf μ0 b0 1) fun x12 μ13 => some (some (.int x12), μ13)) else (gis μ0 b0 0 <| cI (fX0_thereOf μ0 b0 a1) fun x14 μ15 => some (some (.int x14), μ15))
set_option maxHeartbeats 4000000 in
theorem wX0_countOf (l : Launch) (Γ : gG) (ad : Nat → Nat) (μ0 : gM) (b0 : Nat) (a1 : Int32) (r : Option Value × gM) (hf : fX0_countOf μ0 b0 a1 = some r) : gMt0 l Γ yX0_countOf (ws_ yX0_countOf cX0_countOf 2 (some .int)) ({ frames := 4, cells := 0, slots := 0, locals := 86 } : Room) 0 0 ad μ0 [.ref (ad b0), .int a1] r := by
  intro sz
  refine g_start (maxL := 2) (ret := (some .int)) (by decide) rfl g_all (Nat.le_of_ble_eq_true rfl) ?_
  intro p e s m below meth c ls hr hlk hnm X h hl
  generalize gA ad μ0 sz = A at X h ⊢
  generalize ([.ref (ad b0), .int a1] : List Value).toArray = args at X ⊢
  have X : gX p m c cX0_countOf 2 s args "SandPiano" Γ A := X
  have hl : lv_has ls 2 [(0, .ref (ad b0)), (1, .int a1)] := hl
  show W p l e ({ frames := 4, cells := 0, slots := 0, locals := 86 } : Room) s m args below meth c s.heap [] 0 0 (MQ below (gQ0 Γ ad μ0.1 r A) args s 0 0 A) (F0 m 0 ls [])
  unfold fX0_countOf at hf
  refine lv_iload_n X.hx X.hb dX0_countOf_0 rfl (lv_at hl 1 rfl) ?_
  by_cases hc0 : a1 = 0
  · replace hf := gif_t hf hc0
    refine lv_tableIn (tgt := 40) X.hx X.hb dX0_countOf_1 (by rw [hc0]; decide) (by rw [hc0]; decide) (by rw [hc0]; rfl) (by decide) ?_
    clear hc0
    refine lv_aload_n X.hx X.hb dX0_countOf_40 rfl (lv_at hl 0 rfl) ?_
    refine r_getI X h (ci := 0) (k := 7) (C := RX0) (T := TX0) (N := 36) rfl in_X0 (by decide) q149 rfl dX0_countOf_41 hf (fun x1 hf => ?_)
    exact r_ri X h hr hlk (Nat.le_of_ble_eq_true rfl) (Nat.le_of_ble_eq_true rfl) dX0_countOf_44 hf
  replace hf := gif_f hf hc0
  by_cases hc1 : a1 = 1
  · replace hf := gif_t hf hc1
    refine lv_tableIn (tgt := 45) X.hx X.hb dX0_countOf_1 (by rw [hc1]; decide) (by rw [hc1]; decide) (by rw [hc1]; rfl) (by decide) ?_
    clear hc1
    refine lv_aload_n X.hx X.hb dX0_countOf_45 rfl (lv_at hl 0 rfl) ?_
    refine r_getI X h (ci := 0) (k := 19) (C := RX0) (T := TX0) (N := 36) rfl in_X0 (by decide) q161 rfl dX0_countOf_46 hf (fun x2 hf => ?_)
    exact r_ri X h hr hlk (Nat.le_of_ble_eq_true rfl) (Nat.le_of_ble_eq_true rfl) dX0_countOf_49 hf
  replace hf := gif_f hf hc1
  by_cases hc2 : a1 = 2
  · replace hf := gif_t hf hc2
    refine lv_tableIn (tgt := 50) X.hx X.hb dX0_countOf_1 (by rw [hc2]; decide) (by rw [hc2]; decide) (by rw [hc2]; rfl) (by decide) ?_
    clear hc2
    refine lv_aload_n X.hx X.hb dX0_countOf_50 rfl (lv_at hl 0 rfl) ?_
    refine r_getP X h (ci := 0) (k := 10) (C := RX0) (T := TX0) (N := 36) rfl in_X0 (by decide) q152 rfl dX0_countOf_51 hf (fun i3 hf => ?_)
    refine r_getNP X h (ci := 1) (k := 0) (C := RX1) (T := TX1) (N := 1) rfl in_X1 (by decide) 8 rfl rfl dX0_countOf_54 hf (fun i4 hf => ?_)
    refine lv_bipush (v := 6) X.hx X.hb dX0_countOf_57 (by decide) ?_
    refine r_iald X h dX0_countOf_59 hf (fun x5 hf => ?_)
    exact r_ri X h hr hlk (Nat.le_of_ble_eq_true rfl) (Nat.le_of_ble_eq_true rfl) dX0_countOf_60 hf
  replace hf := gif_f hf hc2
  by_cases hc3 : a1 = 3
  · replace hf := gif_t hf hc3
    refine lv_tableIn (tgt := 61) X.hx X.hb dX0_countOf_1 (by rw [hc3]; decide) (by rw [hc3]; decide) (by rw [hc3]; rfl) (by decide) ?_
    clear hc3
    refine lv_aload_n X.hx X.hb dX0_countOf_61 rfl (lv_at hl 0 rfl) ?_
    refine r_getP X h (ci := 0) (k := 10) (C := RX0) (T := TX0) (N := 36) rfl in_X0 (by decide) q152 rfl dX0_countOf_62 hf (fun i6 hf => ?_)
    refine r_getNP X h (ci := 1) (k := 0) (C := RX1) (T := TX1) (N := 1) rfl in_X1 (by decide) 8 rfl rfl dX0_countOf_65 hf (fun i7 hf => ?_)
    refine lv_bipush (v := 7) X.hx X.hb dX0_countOf_68 (by decide) ?_
    refine r_iald X h dX0_countOf_70 hf (fun x8 hf => ?_)
    exact r_ri X h hr hlk (Nat.le_of_ble_eq_true rfl) (Nat.le_of_ble_eq_true rfl) dX0_countOf_71 hf
  replace hf := gif_f hf hc3
  by_cases hc4 : a1 = 4
  · replace hf := gif_t hf hc4
    refine lv_tableIn (tgt := 72) X.hx X.hb dX0_countOf_1 (by rw [hc4]; decide) (by rw [hc4]; decide) (by rw [hc4]; rfl) (by decide) ?_
    clear hc4
    refine lv_aload_n X.hx X.hb dX0_countOf_72 rfl (lv_at hl 0 rfl) ?_
    refine r_getP X h (ci := 0) (k := 10) (C := RX0) (T := TX0) (N := 36) rfl in_X0 (by decide) q152 rfl dX0_countOf_73 hf (fun i9 hf => ?_)
    refine r_getNP X h (ci := 1) (k := 0) (C := RX1) (T := TX1) (N := 1) rfl in_X1 (by decide) 8 rfl rfl dX0_countOf_76 hf (fun i10 hf => ?_)
    refine lv_bipush (v := 8) X.hx X.hb dX0_countOf_79 (by decide) ?_
    refine r_iald X h dX0_countOf_81 hf (fun x11 hf => ?_)
    exact r_ri X h hr hlk (Nat.le_of_ble_eq_true rfl) (Nat.le_of_ble_eq_true rfl) dX0_countOf_82 hf
  replace hf := gif_f hf hc4
  by_cases hc5 : a1 = 5
  · replace hf := gif_t hf hc5
    refine lv_tableIn (tgt := 83) X.hx X.hb dX0_countOf_1 (by rw [hc5]; decide) (by rw [hc5]; decide) (by rw [hc5]; rfl) (by decide) ?_
    clear hc5
    refine lv_aload_n X.hx X.hb dX0_countOf_83 rfl (lv_at hl 0 rfl) ?_
    refine lv_iconst (v := 1) X.hx X.hb dX0_countOf_84 (by decide) ?_
    refine r_cVI (As := [.int 1]) (rest := []) (C := RX0) (T := TX0) (N := 36) X h hf (fun res hres => wX0_keysOf l Γ ad _ b0 1 res hres) rfl (cwV 1 X.hts (lw_V q998 q1000 qs34 q82 q1001) rfl rfl rfl (by decide +kernel) ⟨Nat.le_of_ble_eq_true rfl, Nat.le_of_ble_eq_true rfl⟩) rfl ⟨hl.1, Nat.le_of_ble_eq_true rfl, Nat.le_of_ble_eq_true rfl, Nat.le_of_ble_eq_true rfl⟩ rfl dX0_countOf_85 (fun x12 μ13 H locs hf h => ?_)
    exact r_ri X h hr hlk (Nat.le_of_ble_eq_true rfl) (Nat.le_of_ble_eq_true rfl) dX0_countOf_88 hf
  replace hf := gif_f hf hc5
  have hn0 : (a1 : Int32).toInt ≠ 0 := fun h9 => hc0 (Int32.toInt_inj.mp (h9.trans (by decide)))
  have hn1 : (a1 : Int32).toInt ≠ 1 := fun h9 => hc1 (Int32.toInt_inj.mp (h9.trans (by decide)))
  have hn2 : (a1 : Int32).toInt ≠ 2 := fun h9 => hc2 (Int32.toInt_inj.mp (h9.trans (by decide)))
  have hn3 : (a1 : Int32).toInt ≠ 3 := fun h9 => hc3 (Int32.toInt_inj.mp (h9.trans (by decide)))
  have hn4 : (a1 : Int32).toInt ≠ 4 := fun h9 => hc4 (Int32.toInt_inj.mp (h9.trans (by decide)))
  have hn5 : (a1 : Int32).toInt ≠ 5 := fun h9 => hc5 (Int32.toInt_inj.mp (h9.trans (by decide)))
  refine lv_tableOut (tgt := 89) X.hx X.hb dX0_countOf_1 (by omega) (by decide) ?_
  clear hn0 hn1 hn2 hn3 hn4 hn5 hc0 hc1 hc2 hc3 hc4 hc5
  refine lv_aload_n X.hx X.hb dX0_countOf_89 rfl (lv_at hl 0 rfl) ?_
  refine lv_iload_n X.hx X.hb dX0_countOf_90 rfl (lv_at hl 1 rfl) ?_
  refine r_cVI (As := [.int a1]) (rest := []) (C := RX0) (T := TX0) (N := 36) X h hf (fun res hres => wX0_thereOf l Γ ad _ b0 a1 res hres) rfl (cwV 1 X.hts (lw_V q1027 q1029 qs35 q82 q1030) rfl rfl rfl (by decide +kernel) ⟨Nat.le_of_ble_eq_true rfl, Nat.le_of_ble_eq_true rfl⟩) rfl ⟨hl.1, Nat.le_of_ble_eq_true rfl, Nat.le_of_ble_eq_true rfl, Nat.le_of_ble_eq_true rfl⟩ rfl dX0_countOf_91 (fun x14 μ15 H locs hf h => ?_)
  exact r_ri X h hr hlk (Nat.le_of_ble_eq_true rfl) (Nat.le_of_ble_eq_true rfl) dX0_countOf_94 hf
/-! X0_count -/
def fX0_count (μ0 : gM) (b0 : Nat) (a1 : Int32) : gR := cI (fX0_isIn μ0 a1 0 8) fun x1 μ2 => if x1 = 0 then (some (some (.int (-1)), μ2)) else (gis μ2 b0 0 <| cI (fX0_countOf μ2 b0 a1) fun x3 μ4 => some (some (.int x3), μ4))
set_option maxHeartbeats 4000000 in
theorem wX0_count (l : Launch) (Γ : gG) (ad : Nat → Nat) (μ0 : gM) (b0 : Nat) (a1 : Int32) (r : Option Value × gM) (hf : fX0_count μ0 b0 a1 = some r) : gMt0 l Γ yX0_count (ws_ yX0_count cX0_count 2 (some .int)) ({ frames := 5, cells := 0, slots := 0, locals := 107 } : Room) 0 0 ad μ0 [.ref (ad b0), .int a1] r := by
  intro sz
  refine g_start (maxL := 2) (ret := (some .int)) (by decide) rfl g_all (Nat.le_of_ble_eq_true rfl) ?_
  intro p e s m below meth c ls hr hlk hnm X h hl
  generalize gA ad μ0 sz = A at X h ⊢
  generalize ([.ref (ad b0), .int a1] : List Value).toArray = args at X ⊢
  have X : gX p m c cX0_count 2 s args "SandPiano" Γ A := X
  have hl : lv_has ls 2 [(0, .ref (ad b0)), (1, .int a1)] := hl
  show W p l e ({ frames := 5, cells := 0, slots := 0, locals := 107 } : Room) s m args below meth c s.heap [] 0 0 (MQ below (gQ0 Γ ad μ0.1 r A) args s 0 0 A) (F0 m 0 ls [])
  unfold fX0_count at hf
  refine lv_iload_n X.hx X.hb dX0_count_0 rfl (lv_at hl 1 rfl) ?_
  refine lv_iconst (v := 0) X.hx X.hb dX0_count_1 (by decide) ?_
  refine lv_bipush (v := 8) X.hx X.hb dX0_count_2 (by decide) ?_
  refine r_cSI (As := [.int a1, .int 0, .int 8]) (rest := []) X h hf (fun res hres => wX0_isIn l Γ ad _ a1 0 8 res hres) (va_cwS 3 X.hts (lw_S q344 q345 q82 q346) rfl rfl rfl (by decide +kernel) ⟨Nat.le_of_ble_eq_true rfl, Nat.le_of_ble_eq_true rfl⟩) rfl ⟨hl.1, Nat.le_of_ble_eq_true rfl, Nat.le_of_ble_eq_true rfl, Nat.le_of_ble_eq_true rfl⟩ rfl dX0_count_4 (fun x1 μ2 H locs hf h => ?_)
  refine lv_if_eq (tgt := 18) X.hx X.hb dX0_count_7 (by decide) (fun hc => ?_) (fun hc => ?_)
  · replace hf := gif_t hf hc
    clear hc
    refine lv_iconst (v := (-1)) X.hx X.hb dX0_count_18 (by decide) ?_
    exact r_ri X h hr hlk (Nat.le_of_ble_eq_true rfl) (Nat.le_of_ble_eq_true rfl) dX0_count_19 hf
  · replace hf := gif_f hf hc
    clear hc
    refine lv_aload_n X.hx X.hb dX0_count_10 rfl (lv_at hl 0 rfl) ?_
    refine lv_iload_n X.hx X.hb dX0_count_11 rfl (lv_at hl 1 rfl) ?_
    refine r_cVI (As := [.int a1]) (rest := []) (C := RX0) (T := TX0) (N := 36) X h hf (fun res hres => wX0_countOf l Γ ad _ b0 a1 res hres) rfl (cwV 1 X.hts (lw_V q994 q996 qs33 q82 q997) rfl rfl rfl (by decide +kernel) ⟨Nat.le_of_ble_eq_true rfl, Nat.le_of_ble_eq_true rfl⟩) rfl ⟨hl.1, Nat.le_of_ble_eq_true rfl, Nat.le_of_ble_eq_true rfl, Nat.le_of_ble_eq_true rfl⟩ rfl dX0_count_12 (fun x3 μ4 H locs hf h => ?_)
    refine lv_goto (tgt := 19) X.hx X.hb dX0_count_15 (by decide) ?_
    exact r_ri X h hr hlk (Nat.le_of_ble_eq_true rfl) (Nat.le_of_ble_eq_true rfl) dX0_count_19 hf
/-! X0_digIn -/
def fX0_digIn (μ0 : gM) (b0 : Nat) (b1 : Nat) (a2 : Int32) : gR := gI (gfld μ0 b0 0 8) fun x1 => gis μ0 b1 1 <| cI (fX1_move μ0 b1 a2 6 x1) fun x2 μ3 => some (some (.int x2), μ3)
set_option maxHeartbeats 4000000 in
theorem wX0_digIn (l : Launch) (Γ : gG) (ad : Nat → Nat) (μ0 : gM) (b0 : Nat) (b1 : Nat) (a2 : Int32) (r : Option Value × gM) (hf : fX0_digIn μ0 b0 b1 a2 = some r) : gMt0 l Γ yX0_digIn (ws_ yX0_digIn cX0_digIn 3 (some .int)) ({ frames := 2, cells := 0, slots := 0, locals := 45 } : Room) 0 0 ad μ0 [.ref (ad b0), .ref (ad b1), .int a2] r := by
  intro sz
  refine g_start (maxL := 3) (ret := (some .int)) (by decide) rfl g_all (Nat.le_of_ble_eq_true rfl) ?_
  intro p e s m below meth c ls hr hlk hnm X h hl
  generalize gA ad μ0 sz = A at X h ⊢
  generalize ([.ref (ad b0), .ref (ad b1), .int a2] : List Value).toArray = args at X ⊢
  have X : gX p m c cX0_digIn 3 s args "SandPiano" Γ A := X
  have hl : lv_has ls 3 [(0, .ref (ad b0)), (1, .ref (ad b1)), (2, .int a2)] := hl
  show W p l e ({ frames := 2, cells := 0, slots := 0, locals := 45 } : Room) s m args below meth c s.heap [] 0 0 (MQ below (gQ0 Γ ad μ0.1 r A) args s 0 0 A) (F0 m 0 ls [])
  unfold fX0_digIn at hf
  refine lv_aload_n X.hx X.hb dX0_digIn_0 rfl (lv_at hl 1 rfl) ?_
  refine lv_iload_n X.hx X.hb dX0_digIn_1 rfl (lv_at hl 2 rfl) ?_
  refine lv_bipush (v := 6) X.hx X.hb dX0_digIn_2 (by decide) ?_
  refine lv_aload_n X.hx X.hb dX0_digIn_4 rfl (lv_at hl 0 rfl) ?_
  refine r_getI X h (ci := 0) (k := 8) (C := RX0) (T := TX0) (N := 36) rfl in_X0 (by decide) q150 rfl dX0_digIn_5 hf (fun x1 hf => ?_)
  refine r_cVI (As := [.int a2, .int 6, .int x1]) (rest := []) (C := RX1) (T := TX1) (N := 1) X h hf (fun res hres => wX1_move l Γ ad _ b1 a2 6 x1 res hres) rfl (cwV 3 X.hts (lw_V q785 q738 q739 q83 q740) rfl rfl rfl (by decide +kernel) ⟨Nat.le_of_ble_eq_true rfl, Nat.le_of_ble_eq_true rfl⟩) rfl ⟨hl.1, Nat.le_of_ble_eq_true rfl, Nat.le_of_ble_eq_true rfl, Nat.le_of_ble_eq_true rfl⟩ rfl dX0_digIn_8 (fun x2 μ3 H locs hf h => ?_)
  exact r_ri X h hr hlk (Nat.le_of_ble_eq_true rfl) (Nat.le_of_ble_eq_true rfl) dX0_digIn_11 hf
/-! X0_note -/
def fX0_note (μ0 : gM) (b0 : Nat) : gR := gP (gfld μ0 b0 0 10) fun i1 => gP (gfld μ0 i1 1 0) fun i2 => gP (gfld μ0 b0 0 20) fun i3 => gI (gfld μ0 b0 0 19) fun x4 => gcp μ0 i2 0 i3 (9 * x4) 9 fun μ5 => gI (gfld μ5 b0 0 19) fun x6 => gpf μ5 b0 0 19 (.int (x6 + 1)) fun μ7 => some (none, μ7)
set_option maxHeartbeats 4000000 in
theorem wX0_note (l : Launch) (Γ : gG) (ad : Nat → Nat) (μ0 : gM) (b0 : Nat) (r : Option Value × gM) (hf : fX0_note μ0 b0 = some r) : gMt0 l Γ yX0_note (ws_ yX0_note cX0_note 1 none) ({ frames := 1, cells := 0, slots := 0, locals := 26 } : Room) 0 0 ad μ0 [.ref (ad b0)] r := by
  intro sz
  refine g_start (maxL := 1) (ret := none) (by decide) rfl g_all (Nat.le_of_ble_eq_true rfl) ?_
  intro p e s m below meth c ls hr hlk hnm X h hl
  generalize gA ad μ0 sz = A at X h ⊢
  generalize ([.ref (ad b0)] : List Value).toArray = args at X ⊢
  have X : gX p m c cX0_note 1 s args "SandPiano" Γ A := X
  have hl : lv_has ls 1 [(0, .ref (ad b0))] := hl
  show W p l e ({ frames := 1, cells := 0, slots := 0, locals := 26 } : Room) s m args below meth c s.heap [] 0 0 (MQ below (gQ0 Γ ad μ0.1 r A) args s 0 0 A) (F0 m 0 ls [])
  unfold fX0_note at hf
  refine lv_aload_n X.hx X.hb dX0_note_0 rfl (lv_at hl 0 rfl) ?_
  refine r_getP X h (ci := 0) (k := 10) (C := RX0) (T := TX0) (N := 36) rfl in_X0 (by decide) q152 rfl dX0_note_1 hf (fun i1 hf => ?_)
  refine r_getNP X h (ci := 1) (k := 0) (C := RX1) (T := TX1) (N := 1) rfl in_X1 (by decide) 8 rfl rfl dX0_note_4 hf (fun i2 hf => ?_)
  refine lv_iconst (v := 0) X.hx X.hb dX0_note_7 (by decide) ?_
  refine lv_aload_n X.hx X.hb dX0_note_8 rfl (lv_at hl 0 rfl) ?_
  refine r_getP X h (ci := 0) (k := 20) (C := RX0) (T := TX0) (N := 36) rfl in_X0 (by decide) q162 rfl dX0_note_9 hf (fun i3 hf => ?_)
  refine lv_bipush (v := 9) X.hx X.hb dX0_note_12 (by decide) ?_
  refine lv_aload_n X.hx X.hb dX0_note_14 rfl (lv_at hl 0 rfl) ?_
  refine r_getI X h (ci := 0) (k := 19) (C := RX0) (T := TX0) (N := 36) rfl in_X0 (by decide) q161 rfl dX0_note_15 hf (fun x4 hf => ?_)
  refine lv_imul X.hx X.hb dX0_note_18 ?_
  refine lv_bipush (v := 9) X.hx X.hb dX0_note_19 (by decide) ?_
  refine r_copy X h hl.1 q417 (Nat.le_of_ble_eq_true rfl) (Nat.le_trans (m := 26) (Nat.le_of_ble_eq_true rfl) (Nat.le_of_ble_eq_true rfl)) dX0_note_21 hf (fun μ5 H locs hf h => ?_)
  refine lv_aload_n X.hx X.hb dX0_note_24 rfl (lv_at hl 0 rfl) ?_
  refine lv_dup X.hx X.hb dX0_note_25 rfl ?_
  refine r_getI X h (ci := 0) (k := 19) (C := RX0) (T := TX0) (N := 36) rfl in_X0 (by decide) q161 rfl dX0_note_26 hf (fun x6 hf => ?_)
  refine lv_iconst (v := 1) X.hx X.hb dX0_note_29 (by decide) ?_
  refine lv_iadd X.hx X.hb dX0_note_30 ?_
  refine r_put X h (ci := 0) (k := 19) (C := RX0) (T := TX0) (N := 36) (ty0 := tyX0) (ty := .int) (v := .int (x6 + 1)) rfl in_X0 tyX0_ok nmX0 (by decide) q161 rfl rfl (by decide +kernel) rfl rfl (fun j hj => by cases hj) dX0_note_31 hf (fun μ7 H locs hf h => ?_)
  exact r_rv X h hr hlk (Nat.le_of_ble_eq_true rfl) (Nat.le_of_ble_eq_true rfl) dX0_note_34 hf
/-! X0_dig -/
def fX0_dig (μ0 : gM) (b0 : Nat) (a1 : Int32) : gR := gis μ0 b0 0 <| cI (fX0_isKey μ0 b0 a1) fun x1 μ2 => if x1 = 0 then (some (some (.int (-1)), μ2)) else (gI (gfld μ2 b0 0 19) fun x3 => if x3 = 60 then (some (some (.int (-2)), μ2)) else (gis μ2 b0 0 <| cV (fX0_note μ2 b0) fun μ4 => gP (gfld μ4 b0 0 10) fun i5 => gis μ4 b0 0 <| cI (fX0_digIn μ4 b0 i5 a1) fun x6 μ7 => some (some (.int x6), μ7)))
set_option maxHeartbeats 4000000 in
theorem wX0_dig (l : Launch) (Γ : gG) (ad : Nat → Nat) (μ0 : gM) (b0 : Nat) (a1 : Int32) (r : Option Value × gM) (hf : fX0_dig μ0 b0 a1 = some r) : gMt0 l Γ yX0_dig (ws_ yX0_dig cX0_dig 2 (some .int)) ({ frames := 3, cells := 0, slots := 0, locals := 67 } : Room) 0 0 ad μ0 [.ref (ad b0), .int a1] r := by
  intro sz
  refine g_start (maxL := 2) (ret := (some .int)) (by decide) rfl g_all (Nat.le_of_ble_eq_true rfl) ?_
  intro p e s m below meth c ls hr hlk hnm X h hl
  generalize gA ad μ0 sz = A at X h ⊢
  generalize ([.ref (ad b0), .int a1] : List Value).toArray = args at X ⊢
  have X : gX p m c cX0_dig 2 s args "SandPiano" Γ A := X
  have hl : lv_has ls 2 [(0, .ref (ad b0)), (1, .int a1)] := hl
  show W p l e ({ frames := 3, cells := 0, slots := 0, locals := 67 } : Room) s m args below meth c s.heap [] 0 0 (MQ below (gQ0 Γ ad μ0.1 r A) args s 0 0 A) (F0 m 0 ls [])
  unfold fX0_dig at hf
  refine lv_aload_n X.hx X.hb dX0_dig_0 rfl (lv_at hl 0 rfl) ?_
  refine lv_iload_n X.hx X.hb dX0_dig_1 rfl (lv_at hl 1 rfl) ?_
  refine r_cVI (As := [.int a1]) (rest := []) (C := RX0) (T := TX0) (N := 36) X h hf (fun res hres => wX0_isKey l Γ ad _ b0 a1 res hres) rfl (cwV 1 X.hts (lw_V q549 q551 qs9 q82 q552) rfl rfl rfl (by decide +kernel) ⟨Nat.le_of_ble_eq_true rfl, Nat.le_of_ble_eq_true rfl⟩) rfl ⟨hl.1, Nat.le_of_ble_eq_true rfl, Nat.le_of_ble_eq_true rfl, Nat.le_of_ble_eq_true rfl⟩ rfl dX0_dig_2 (fun x1 μ2 H locs hf h => ?_)
  refine lv_if_ne (tgt := 10) X.hx X.hb dX0_dig_5 (by decide) (fun hc => ?_) (fun hc => ?_)
  · replace hf := gif_f hf hc
    clear hc
    refine lv_aload_n X.hx X.hb dX0_dig_10 rfl (lv_at hl 0 rfl) ?_
    refine r_getI X h (ci := 0) (k := 19) (C := RX0) (T := TX0) (N := 36) rfl in_X0 (by decide) q161 rfl dX0_dig_11 hf (fun x3 hf => ?_)
    refine lv_bipush (v := 60) X.hx X.hb dX0_dig_14 (by decide) ?_
    refine lv_icmp_ne (tgt := 22) X.hx X.hb dX0_dig_16 (by decide) (fun hc => ?_) (fun hc => ?_)
    · replace hf := gif_f hf hc
      clear hc
      refine lv_aload_n X.hx X.hb dX0_dig_22 rfl (lv_at hl 0 rfl) ?_
      refine r_cVV (As := []) (rest := []) (C := RX0) (T := TX0) (N := 36) X h hf (fun res hres => wX0_note l Γ ad _ b0 res hres) rfl (cwV 0 X.hts (lw_V q718 q720 qs13 q82 q721) rfl rfl rfl (by decide +kernel) ⟨Nat.le_of_ble_eq_true rfl, Nat.le_of_ble_eq_true rfl⟩) rfl ⟨hl.1, Nat.le_of_ble_eq_true rfl, Nat.le_of_ble_eq_true rfl, Nat.le_of_ble_eq_true rfl⟩ rfl dX0_dig_23 (fun μ4 H locs hf h => ?_)
      refine lv_aload_n X.hx X.hb dX0_dig_26 rfl (lv_at hl 0 rfl) ?_
      refine lv_aload_n X.hx X.hb dX0_dig_27 rfl (lv_at hl 0 rfl) ?_
      refine r_getP X h (ci := 0) (k := 10) (C := RX0) (T := TX0) (N := 36) rfl in_X0 (by decide) q152 rfl dX0_dig_28 hf (fun i5 hf => ?_)
      refine lv_iload_n X.hx X.hb dX0_dig_31 rfl (lv_at hl 1 rfl) ?_
      refine r_cVI (As := [.ref (ad i5), .int a1]) (rest := []) (C := RX0) (T := TX0) (N := 36) X h hf (fun res hres => wX0_digIn l Γ ad _ b0 i5 a1 res hres) rfl (cwV 2 X.hts (lw_V q790 q792 qs16 q82 q793) rfl rfl rfl (by decide +kernel) ⟨Nat.le_of_ble_eq_true rfl, Nat.le_of_ble_eq_true rfl⟩) rfl ⟨hl.1, Nat.le_of_ble_eq_true rfl, Nat.le_of_ble_eq_true rfl, Nat.le_of_ble_eq_true rfl⟩ rfl dX0_dig_32 (fun x6 μ7 H locs hf h => ?_)
      exact r_ri X h hr hlk (Nat.le_of_ble_eq_true rfl) (Nat.le_of_ble_eq_true rfl) dX0_dig_35 hf
    · replace hf := gif_t hf hc
      clear hc
      refine lv_bipush (v := (-2)) X.hx X.hb dX0_dig_19 (by decide) ?_
      exact r_ri X h hr hlk (Nat.le_of_ble_eq_true rfl) (Nat.le_of_ble_eq_true rfl) dX0_dig_21 hf
  · replace hf := gif_t hf hc
    clear hc
    refine lv_iconst (v := (-1)) X.hx X.hb dX0_dig_8 (by decide) ?_
    exact r_ri X h hr hlk (Nat.le_of_ble_eq_true rfl) (Nat.le_of_ble_eq_true rfl) dX0_dig_9 hf
/-! X0_playOn -/
def fX0_playOn_L2 (b0 : Nat) (b1 : Nat) (b2 : Nat) : Nat → Int32 → gM → gR
  | 0, _, _ => none
  | n3 + 1, x1, μ2 => glen μ2 0 b2 fun x4 => if x4 ≤ x1 then (some (some (.int x1), μ2)) else (gP (gfld μ2 b0 0 9) fun i5 => gaI μ2 0 b2 x1 fun x6 => gaQ μ2 5 i5 x6 fun o7 => gnn o7 fun i8 => cI (vX3_plays μ2 i8 b1) fun x9 μ10 => if x9 = 0 then (some (some (.int x1), μ10)) else (gaI μ10 0 b2 x1 fun x11 => gis μ10 b0 0 <| cV (fX0_playIn μ10 b0 b1 x11) fun μ12 => gnm (x1 + 1) fun x13 => fX0_playOn_L2 b0 b1 b2 n3 x13 μ12))
set_option maxHeartbeats 4000000 in
theorem wX0_playOn_L2 {p : Program} {e : Env} {s : State} {m : MethodId} {args : Array Value} {below : List Frame} {meth : Method} {c : Code} {Γ : gG} {A : Nat → Prop} {nz : Nat} {ad : Nat → Nat} {r : Option Value × gM} (l : Launch) (b0 : Nat) (b1 : Nat) (b2 : Nat) (X : gX p m c cX0_playOn 4 s args "SandPiano" Γ A) (hr : meth.sig.returnType = (some .int)) (hlk : meth.locks = false) : ∀ (n3 : Nat) (x1 : Int32) (μ2 : gM) (H : Heap) (locs : List Loc) (ls : Array Slot), fX0_playOn_L2 b0 b1 b2 n3 x1 μ2 = some r → gWd Γ A nz ad μ2 s.heap H locs → lv_has ls 4 [(0, .ref (ad b0)), (1, .ref (ad b1)), (2, .ref (ad b2)), (3, .int x1)] → W p l e ({ frames := 4, cells := 0, slots := 0, locals := 89 } : Room) s m args below meth c H locs 0 0 (MQ below (gQ0 Γ ad nz r A) args s 0 0 A) (F0 m 2 ls []) := by
  intro n3
  induction n3 with
  | zero =>
    intro x1 μ2 H locs ls hf h hl
    have hf : (none : gR) = some r := hf
    cases hf
  | succ n3 ih =>
    intro x1 μ2 H locs ls hf h hl
    rw [fX0_playOn_L2] at hf
    refine lv_iload_n X.hx X.hb dX0_playOn_2 rfl (lv_at hl 3 rfl) ?_
    refine lv_aload_n X.hx X.hb dX0_playOn_3 rfl (lv_at hl 2 rfl) ?_
    refine r_len X h (t := 0) rfl dX0_playOn_4 hf (fun x4 hf => ?_)
    refine lv_icmp_ge (tgt := 37) X.hx X.hb dX0_playOn_5 (by decide) (fun hc => ?_) (fun hc => ?_)
    · replace hf := gif_t hf hc
      clear hc
      refine lv_iload_n X.hx X.hb dX0_playOn_37 rfl (lv_at hl 3 rfl) ?_
      exact r_ri X h hr hlk (Nat.le_of_ble_eq_true rfl) (Nat.le_of_ble_eq_true rfl) dX0_playOn_38 hf
    · replace hf := gif_f hf hc
      clear hc
      refine lv_aload_n X.hx X.hb dX0_playOn_8 rfl (lv_at hl 0 rfl) ?_
      refine r_getP X h (ci := 0) (k := 9) (C := RX0) (T := TX0) (N := 36) rfl in_X0 (by decide) q151 rfl dX0_playOn_9 hf (fun i5 hf => ?_)
      refine lv_aload_n X.hx X.hb dX0_playOn_12 rfl (lv_at hl 2 rfl) ?_
      refine lv_iload_n X.hx X.hb dX0_playOn_13 rfl (lv_at hl 3 rfl) ?_
      refine r_iald X h dX0_playOn_14 hf (fun x6 hf => ?_)
      refine r_aald X h (t := 5) rfl rfl dX0_playOn_15 hf (fun o7 hf => ?_)
      refine r_nn hf (fun i8 hf => ?_)
      refine lv_aload_n X.hx X.hb dX0_playOn_16 rfl (lv_at hl 1 rfl) ?_
      refine wvX3_plays X h q597 (Nat.le_of_ble_eq_true rfl) (Nat.le_of_ble_eq_true rfl) (rest := []) ⟨hl.1, Nat.le_of_ble_eq_true rfl, Nat.le_of_ble_eq_true rfl, Nat.le_of_ble_eq_true rfl⟩ rfl dX0_playOn_17 hf (fun x9 μ10 H locs hf h => ?_)
      refine lv_if_eq (tgt := 37) X.hx X.hb dX0_playOn_20 (by decide) (fun hc => ?_) (fun hc => ?_)
      · replace hf := gif_t hf hc
        clear hc
        refine lv_iload_n X.hx X.hb dX0_playOn_37 rfl (lv_at hl 3 rfl) ?_
        exact r_ri X h hr hlk (Nat.le_of_ble_eq_true rfl) (Nat.le_of_ble_eq_true rfl) dX0_playOn_38 hf
      · replace hf := gif_f hf hc
        clear hc
        refine lv_aload_n X.hx X.hb dX0_playOn_23 rfl (lv_at hl 0 rfl) ?_
        refine lv_aload_n X.hx X.hb dX0_playOn_24 rfl (lv_at hl 1 rfl) ?_
        refine lv_aload_n X.hx X.hb dX0_playOn_25 rfl (lv_at hl 2 rfl) ?_
        refine lv_iload_n X.hx X.hb dX0_playOn_26 rfl (lv_at hl 3 rfl) ?_
        refine r_iald X h dX0_playOn_27 hf (fun x11 hf => ?_)
        refine r_cVV (As := [.ref (ad b1), .int x11]) (rest := []) (C := RX0) (T := TX0) (N := 36) X h hf (fun res hres => wX0_playIn l Γ ad _ b0 b1 x11 res hres) rfl (cwV 2 X.hts (lw_V q722 q724 qs14 q82 q725) rfl rfl rfl (by decide +kernel) ⟨Nat.le_of_ble_eq_true rfl, Nat.le_of_ble_eq_true rfl⟩) rfl ⟨hl.1, Nat.le_of_ble_eq_true rfl, Nat.le_of_ble_eq_true rfl, Nat.le_of_ble_eq_true rfl⟩ rfl dX0_playOn_28 (fun μ12 H locs hf h => ?_)
        refine r_nmk hf (fun x13 ex hf => ?_)
        refine lv_iinc (v := x13) (lv' := [(3, .int x13), (0, .ref (ad b0)), (1, .ref (ad b1)), (2, .ref (ad b2))]) X.hx X.hb dX0_playOn_31 hl (k := 3) rfl (by rw [ex]; rfl) (by decide) rfl (fun ls hl => ?_)
        clear ex
        refine lv_goto (tgt := 2) X.hx X.hb dX0_playOn_34 (by decide) ?_
        exact ih _ _ _ _ _ hf h (lv_sub hl [1, 2, 3, 0] rfl)
def fX0_playOn (μ0 : gM) (b0 : Nat) (b1 : Nat) (b2 : Nat) : gR := fX0_playOn_L2 b0 b1 b2 10000 0 μ0
set_option maxHeartbeats 4000000 in
theorem wX0_playOn (l : Launch) (Γ : gG) (ad : Nat → Nat) (μ0 : gM) (b0 : Nat) (b1 : Nat) (b2 : Nat) (r : Option Value × gM) (hf : fX0_playOn μ0 b0 b1 b2 = some r) : gMt0 l Γ yX0_playOn (ws_ yX0_playOn cX0_playOn 4 (some .int)) ({ frames := 4, cells := 0, slots := 0, locals := 89 } : Room) 0 0 ad μ0 [.ref (ad b0), .ref (ad b1), .ref (ad b2)] r := by
  intro sz
  refine g_start (maxL := 4) (ret := (some .int)) (by decide) rfl g_all (Nat.le_of_ble_eq_true rfl) ?_
  intro p e s m below meth c ls hr hlk hnm X h hl
  generalize gA ad μ0 sz = A at X h ⊢
  generalize ([.ref (ad b0), .ref (ad b1), .ref (ad b2)] : List Value).toArray = args at X ⊢
  have X : gX p m c cX0_playOn 4 s args "SandPiano" Γ A := X
  have hl : lv_has ls 4 [(0, .ref (ad b0)), (1, .ref (ad b1)), (2, .ref (ad b2))] := hl
  show W p l e ({ frames := 4, cells := 0, slots := 0, locals := 89 } : Room) s m args below meth c s.heap [] 0 0 (MQ below (gQ0 Γ ad μ0.1 r A) args s 0 0 A) (F0 m 0 ls [])
  unfold fX0_playOn at hf
  refine lv_iconst (v := 0) X.hx X.hb dX0_playOn_0 (by decide) ?_
  refine lv_istore_n (lv' := [(3, .int 0), (0, .ref (ad b0)), (1, .ref (ad b1)), (2, .ref (ad b2))]) X.hx X.hb dX0_playOn_1 rfl hl (by decide) rfl (fun ls hl => ?_)
  refine wX0_playOn_L2 l b0 b1 b2 X hr hlk 10000 _ _ _ _ _ hf h (lv_sub hl [1, 2, 3, 0] rfl)
/-! X0_digOn -/
def fX0_digOn_L84 (rec : gM → Nat → Nat → Int32 → Int32 → gR) (b0 : Nat) (b1 : Nat) (a2 : Int32) (a3 : Int32) : Nat → Int32 → gM → gR
  | 0, _, _ => none
  | n6 + 1, x4, μ5 => gI (gfld μ5 b0 0 7) fun x7 => if x7 ≤ x4 then (rZ 0 μ5) else (gP (gfld μ5 b0 0 24) fun i8 => gsI μ5 0 i8 a2 x4 fun μ9 => gis μ9 b0 0 <| cI (rec μ9 b0 b1 (a2 + 1) (a3 - 1)) fun x10 μ11 => if x10 = 0 then (gnm (x4 + 1) fun x12 => fX0_digOn_L84 rec b0 b1 a2 a3 n6 x12 μ11) else (rZ 1 μ11))
set_option maxHeartbeats 4000000 in
theorem wX0_digOn_L84 {p : Program} {e : Env} {s : State} {m : MethodId} {args : Array Value} {below : List Frame} {meth : Method} {c : Code} {Γ : gG} {A : Nat → Prop} {nz : Nat} {ad : Nat → Nat} {r : Option Value × gM} (l : Launch) (dd : Nat) (rec : gM → Nat → Nat → Int32 → Int32 → gR) (b0 : Nat) (b1 : Nat) (a2 : Int32) (a3 : Int32) (X : gX p m c cX0_digOn 5 s args "SandPiano" Γ A) (hr : meth.sig.returnType = (some .boolean)) (hlk : meth.locks = false) (hrec : ∀ (ad : Nat → Nat) (μ : gM) (b0 : Nat) (b1 : Nat) (a2 : Int32) (a3 : Int32) (r : Option Value × gM), rec μ b0 b1 a2 a3 = some r → gMt0 l Γ yX0_digOn (ws_ yX0_digOn cX0_digOn 5 (some .boolean)) ({ frames := 5 + dd, cells := 0, slots := 0, locals := 112 + dd * 24 } : Room) 0 0 ad μ [.ref (ad b0), .ref (ad b1), .int a2, .int a3] r) : ∀ (n6 : Nat) (x4 : Int32) (μ5 : gM) (H : Heap) (locs : List Loc) (ls : Array Slot), fX0_digOn_L84 rec b0 b1 a2 a3 n6 x4 μ5 = some r → gWd Γ A nz ad μ5 s.heap H locs → lv_has ls 5 [(0, .ref (ad b0)), (1, .ref (ad b1)), (2, .int a2), (3, .int a3), (4, .int x4)] → W p l e ({ frames := 5 + (dd + 1), cells := 0, slots := 0, locals := 112 + (dd + 1) * 24 } : Room) s m args below meth c H locs 0 0 (MQ below (gQ0 Γ ad nz r A) args s 0 0 A) (F0 m 84 ls []) := by
  intro n6
  induction n6 with
  | zero =>
    intro x4 μ5 H locs ls hf h hl
    have hf : (none : gR) = some r := hf
    cases hf
  | succ n6 ih =>
    intro x4 μ5 H locs ls hf h hl
    rw [fX0_digOn_L84] at hf
    refine lv_iload X.hx X.hb dX0_digOn_84 (lv_at hl 4 rfl) ?_
    refine lv_aload_n X.hx X.hb dX0_digOn_86 rfl (lv_at hl 0 rfl) ?_
    refine r_getI X h (ci := 0) (k := 7) (C := RX0) (T := TX0) (N := 36) rfl in_X0 (by decide) q149 rfl dX0_digOn_87 hf (fun x7 hf => ?_)
    refine lv_icmp_ge (tgt := 123) X.hx X.hb dX0_digOn_90 (by decide) (fun hc => ?_) (fun hc => ?_)
    · replace hf := gif_t hf hc
      clear hc
      refine lv_iconst (v := 0) X.hx X.hb dX0_digOn_123 (by decide) ?_
      exact r_rz X h hr hlk ((by first | exact Nat.le_of_ble_eq_true rfl | omega | (dsimp only; omega))) ((by first | exact Nat.le_of_ble_eq_true rfl | omega | (dsimp only; omega))) dX0_digOn_124 hf
    · replace hf := gif_f hf hc
      clear hc
      refine lv_aload_n X.hx X.hb dX0_digOn_93 rfl (lv_at hl 0 rfl) ?_
      refine r_getP X h (ci := 0) (k := 24) (C := RX0) (T := TX0) (N := 36) rfl in_X0 (by decide) q166 rfl dX0_digOn_94 hf (fun i8 hf => ?_)
      refine lv_iload_n X.hx X.hb dX0_digOn_97 rfl (lv_at hl 2 rfl) ?_
      refine lv_iload X.hx X.hb dX0_digOn_98 (lv_at hl 4 rfl) ?_
      refine r_iast X h dX0_digOn_100 hf (fun μ9 H locs hf h => ?_)
      refine lv_aload_n X.hx X.hb dX0_digOn_101 rfl (lv_at hl 0 rfl) ?_
      refine lv_aload_n X.hx X.hb dX0_digOn_102 rfl (lv_at hl 1 rfl) ?_
      refine lv_iload_n X.hx X.hb dX0_digOn_103 rfl (lv_at hl 2 rfl) ?_
      refine lv_iconst (v := 1) X.hx X.hb dX0_digOn_104 (by decide) ?_
      refine lv_iadd X.hx X.hb dX0_digOn_105 ?_
      refine lv_iload_n X.hx X.hb dX0_digOn_106 rfl (lv_at hl 3 rfl) ?_
      refine lv_iconst (v := 1) X.hx X.hb dX0_digOn_107 (by decide) ?_
      refine lv_isub X.hx X.hb dX0_digOn_108 ?_
      refine r_cVI (As := [.ref (ad b1), .int (a2 + 1), .int (a3 - 1)]) (rest := []) (C := RX0) (T := TX0) (N := 36) X h hf (fun res hres => hrec ad _ b0 b1 (a2 + 1) (a3 - 1) res hres) rfl (cwV 3 X.hts (lw_V q861 q863 qs19 q82 q864) rfl rfl rfl (by decide +kernel) ⟨(by first | exact Nat.le_of_ble_eq_true rfl | omega | (dsimp only; omega)), (by first | exact Nat.le_of_ble_eq_true rfl | omega | (dsimp only; omega))⟩) rfl ⟨hl.1, Nat.le_of_ble_eq_true rfl, (by first | exact Nat.le_of_ble_eq_true rfl | omega | (dsimp only; omega)), (by first | exact Nat.le_of_ble_eq_true rfl | omega | (dsimp only; omega))⟩ rfl dX0_digOn_109 (fun x10 μ11 H locs hf h => ?_)
      refine lv_if_eq (tgt := 117) X.hx X.hb dX0_digOn_112 (by decide) (fun hc => ?_) (fun hc => ?_)
      · replace hf := gif_t hf hc
        clear hc
        refine r_nmk hf (fun x12 ex hf => ?_)
        refine lv_iinc (v := x12) (lv' := [(4, .int x12), (0, .ref (ad b0)), (1, .ref (ad b1)), (2, .int a2), (3, .int a3)]) X.hx X.hb dX0_digOn_117 hl (k := 4) rfl (by rw [ex]; rfl) (by decide) rfl (fun ls hl => ?_)
        clear ex
        refine lv_goto (tgt := 84) X.hx X.hb dX0_digOn_120 (by decide) ?_
        exact ih _ _ _ _ _ hf h (lv_sub hl [1, 2, 3, 4, 0] rfl)
      · replace hf := gif_f hf hc
        clear hc
        refine lv_iconst (v := 1) X.hx X.hb dX0_digOn_115 (by decide) ?_
        exact r_rz X h hr hlk ((by first | exact Nat.le_of_ble_eq_true rfl | omega | (dsimp only; omega))) ((by first | exact Nat.le_of_ble_eq_true rfl | omega | (dsimp only; omega))) dX0_digOn_116 hf
def fX0_digOn_L18 (rec : gM → Nat → Nat → Int32 → Int32 → gR) (b0 : Nat) (b1 : Nat) (a2 : Int32) (kx46 : gM → gR) : Nat → Int32 → gM → gR
  | 0, _, _ => none
  | n20 + 1, x18, μ19 => if a2 ≤ x18 then (kx46 μ19) else (gP (gfld μ19 b0 0 22) fun i21 => gP (gfld μ19 b0 0 24) fun i22 => gaI μ19 0 i22 x18 fun x23 => gis μ19 b0 0 <| cI (fX0_digIn μ19 b0 i21 x23) fun x24 μ25 => gnm (x18 + 1) fun x26 => fX0_digOn_L18 rec b0 b1 a2 kx46 n20 x26 μ25)
set_option maxHeartbeats 4000000 in
theorem wX0_digOn_L18 {p : Program} {e : Env} {s : State} {m : MethodId} {args : Array Value} {below : List Frame} {meth : Method} {c : Code} {Γ : gG} {A : Nat → Prop} {nz : Nat} {ad : Nat → Nat} {r : Option Value × gM} (l : Launch) (dd : Nat) (rec : gM → Nat → Nat → Int32 → Int32 → gR) (b0 : Nat) (b1 : Nat) (a2 : Int32) (kx46 : gM → gR) (X : gX p m c cX0_digOn 5 s args "SandPiano" Γ A) (hr : meth.sig.returnType = (some .boolean)) (hlk : meth.locks = false) (hrec : ∀ (ad : Nat → Nat) (μ : gM) (b0 : Nat) (b1 : Nat) (a2 : Int32) (a3 : Int32) (r : Option Value × gM), rec μ b0 b1 a2 a3 = some r → gMt0 l Γ yX0_digOn (ws_ yX0_digOn cX0_digOn 5 (some .boolean)) ({ frames := 5 + dd, cells := 0, slots := 0, locals := 112 + dd * 24 } : Room) 0 0 ad μ [.ref (ad b0), .ref (ad b1), .int a2, .int a3] r) (hk46 : ∀  (μ : gM) (H : Heap) (locs : List Loc) (ls : Array Slot), kx46  μ = some r → gWd Γ A nz ad μ s.heap H locs → lv_has ls 5 [(0, .ref (ad b0)), (1, .ref (ad b1))] → W p l e ({ frames := 5 + (dd + 1), cells := 0, slots := 0, locals := 112 + (dd + 1) * 24 } : Room) s m args below meth c H locs 0 0 (MQ below (gQ0 Γ ad nz r A) args s 0 0 A) (F0 m 46 ls [])) : ∀ (n20 : Nat) (x18 : Int32) (μ19 : gM) (H : Heap) (locs : List Loc) (ls : Array Slot), fX0_digOn_L18 rec b0 b1 a2 kx46 n20 x18 μ19 = some r → gWd Γ A nz ad μ19 s.heap H locs → lv_has ls 5 [(0, .ref (ad b0)), (1, .ref (ad b1)), (2, .int a2), (4, .int x18)] → W p l e ({ frames := 5 + (dd + 1), cells := 0, slots := 0, locals := 112 + (dd + 1) * 24 } : Room) s m args below meth c H locs 0 0 (MQ below (gQ0 Γ ad nz r A) args s 0 0 A) (F0 m 18 ls []) := by
  intro n20
  induction n20 with
  | zero =>
    intro x18 μ19 H locs ls hf h hl
    have hf : (none : gR) = some r := hf
    cases hf
  | succ n20 ih =>
    intro x18 μ19 H locs ls hf h hl
    rw [fX0_digOn_L18] at hf
    refine lv_iload X.hx X.hb dX0_digOn_18 (lv_at hl 3 rfl) ?_
    refine lv_iload_n X.hx X.hb dX0_digOn_20 rfl (lv_at hl 2 rfl) ?_
    refine lv_icmp_ge (tgt := 46) X.hx X.hb dX0_digOn_21 (by decide) (fun hc => ?_) (fun hc => ?_)
    · replace hf := gif_t hf hc
      clear hc
      exact hk46 _ _ _ _ hf h (lv_sub hl [0, 1] rfl)
    · replace hf := gif_f hf hc
      clear hc
      refine lv_aload_n X.hx X.hb dX0_digOn_24 rfl (lv_at hl 0 rfl) ?_
      refine lv_aload_n X.hx X.hb dX0_digOn_25 rfl (lv_at hl 0 rfl) ?_
      refine r_getP X h (ci := 0) (k := 22) (C := RX0) (T := TX0) (N := 36) rfl in_X0 (by decide) q164 rfl dX0_digOn_26 hf (fun i21 hf => ?_)
      refine lv_aload_n X.hx X.hb dX0_digOn_29 rfl (lv_at hl 0 rfl) ?_
      refine r_getP X h (ci := 0) (k := 24) (C := RX0) (T := TX0) (N := 36) rfl in_X0 (by decide) q166 rfl dX0_digOn_30 hf (fun i22 hf => ?_)
      refine lv_iload X.hx X.hb dX0_digOn_33 (lv_at hl 3 rfl) ?_
      refine r_iald X h dX0_digOn_35 hf (fun x23 hf => ?_)
      refine r_cVI (As := [.ref (ad i21), .int x23]) (rest := []) (C := RX0) (T := TX0) (N := 36) X h hf (fun res hres => wX0_digIn l Γ ad _ b0 i21 x23 res hres) rfl (cwV 2 X.hts (lw_V q790 q792 qs16 q82 q793) rfl rfl rfl (by decide +kernel) ⟨(by first | exact Nat.le_of_ble_eq_true rfl | omega | (dsimp only; omega)), (by first | exact Nat.le_of_ble_eq_true rfl | omega | (dsimp only; omega))⟩) rfl ⟨hl.1, Nat.le_of_ble_eq_true rfl, (by first | exact Nat.le_of_ble_eq_true rfl | omega | (dsimp only; omega)), (by first | exact Nat.le_of_ble_eq_true rfl | omega | (dsimp only; omega))⟩ rfl dX0_digOn_36 (fun x24 μ25 H locs hf h => ?_)
      refine lv_pop X.hx X.hb dX0_digOn_39 rfl ?_
      refine r_nmk hf (fun x26 ex hf => ?_)
      refine lv_iinc (v := x26) (lv' := [(4, .int x26), (0, .ref (ad b0)), (1, .ref (ad b1)), (2, .int a2)]) X.hx X.hb dX0_digOn_40 hl (k := 3) rfl (by rw [ex]; rfl) (by decide) rfl (fun ls hl => ?_)
      clear ex
      refine lv_goto (tgt := 18) X.hx X.hb dX0_digOn_43 (by decide) ?_
      exact ih _ _ _ _ _ hf h (lv_sub hl [1, 2, 3, 0] rfl)
def fX0_digOn_B (rec : gM → Nat → Nat → Int32 → Int32 → gR) (μ0 : gM) (b0 : Nat) (b1 : Nat) (a2 : Int32) (a3 : Int32) : gR := if a3 = 0 then (gP (gfld μ0 b0 0 22) fun i15 => gP (gfld μ0 b0 0 10) fun i16 => gis μ0 i15 1 <| cV (fX1_take μ0 i15 i16) fun μ17 => fX0_digOn_L18 rec b0 b1 a2 (fun (μ27 : gM) => gP (gfld μ27 b0 0 22) fun i28 => gis μ27 b0 0 <| cI (fX0_playOn μ27 b0 i28 b1) fun x29 μ30 => glen μ30 0 b1 fun x31 => if x29 = x31 then (rZ 1 μ30) else (rZ 0 μ30)) 10000 0 μ17) else (gjn (fun (x1 : Int32) (μ2 : gM) => fX0_digOn_L84 rec b0 b1 a2 a3 10000 x1 μ2) fun j3 => if a2 = 0 then (j3 0 μ0) else (gP (gfld μ0 b0 0 24) fun i13 => gaI μ0 0 i13 (a2 - 1) fun x14 => j3 x14 μ0))
set_option maxHeartbeats 4000000 in
theorem wX0_digOn_B (l : Launch) (Γ : gG) (dd : Nat) (rec : gM → Nat → Nat → Int32 → Int32 → gR) (hrec : ∀ (ad : Nat → Nat) (μ : gM) (b0 : Nat) (b1 : Nat) (a2 : Int32) (a3 : Int32) (r : Option Value × gM), rec μ b0 b1 a2 a3 = some r → gMt0 l Γ yX0_digOn (ws_ yX0_digOn cX0_digOn 5 (some .boolean)) ({ frames := 5 + dd, cells := 0, slots := 0, locals := 112 + dd * 24 } : Room) 0 0 ad μ [.ref (ad b0), .ref (ad b1), .int a2, .int a3] r) (ad : Nat → Nat) (μ0 : gM) (b0 : Nat) (b1 : Nat) (a2 : Int32) (a3 : Int32) (r : Option Value × gM) (hf : fX0_digOn_B rec μ0 b0 b1 a2 a3 = some r) : gMt0 l Γ yX0_digOn (ws_ yX0_digOn cX0_digOn 5 (some .boolean)) ({ frames := 5 + (dd + 1), cells := 0, slots := 0, locals := 112 + (dd + 1) * 24 } : Room) 0 0 ad μ0 [.ref (ad b0), .ref (ad b1), .int a2, .int a3] r := by
  intro sz
  refine g_start (maxL := 5) (ret := (some .boolean)) (by decide) rfl g_all (Nat.le_of_ble_eq_true rfl) ?_
  intro p e s m below meth c ls hr hlk hnm X h hl
  generalize gA ad μ0 sz = A at X h ⊢
  generalize ([.ref (ad b0), .ref (ad b1), .int a2, .int a3] : List Value).toArray = args at X ⊢
  have X : gX p m c cX0_digOn 5 s args "SandPiano" Γ A := X
  have hl : lv_has ls 5 [(0, .ref (ad b0)), (1, .ref (ad b1)), (2, .int a2), (3, .int a3)] := hl
  show W p l e ({ frames := 5 + (dd + 1), cells := 0, slots := 0, locals := 112 + (dd + 1) * 24 } : Room) s m args below meth c s.heap [] 0 0 (MQ below (gQ0 Γ ad μ0.1 r A) args s 0 0 A) (F0 m 0 ls [])
  unfold fX0_digOn_B at hf
  refine lv_iload_n X.hx X.hb dX0_digOn_0 rfl (lv_at hl 3 rfl) ?_
  refine lv_if_ne (tgt := 66) X.hx X.hb dX0_digOn_1 (by decide) (fun hc => ?_) (fun hc => ?_)
  · replace hf := gif_f hf hc
    clear hc
    refine lv_iload_n X.hx X.hb dX0_digOn_66 rfl (lv_at hl 2 rfl) ?_
    refine r_jn hf (fun j3 ej3 hf => ?_)
    have hj3 : ∀ (x1 : Int32) (μ2 : gM) (H : Heap) (locs : List Loc) (ls : Array Slot), j3 x1 μ2 = some r → gWd Γ A μ0.1 ad μ2 s.heap H locs → lv_has ls 5 [(0, .ref (ad b0)), (1, .ref (ad b1)), (2, .int a2), (3, .int a3)] → W p l e ({ frames := 5 + (dd + 1), cells := 0, slots := 0, locals := 112 + (dd + 1) * 24 } : Room) s m args below meth c H locs 0 0 (MQ below (gQ0 Γ ad μ0.1 r A) args s 0 0 A) (F0 m 82 ls [.int x1]) := by
      intro x1 μ2 H locs ls hf h hl
      rw [ej3] at hf
      refine lv_istore (lv' := [(4, .int x1), (0, .ref (ad b0)), (1, .ref (ad b1)), (2, .int a2), (3, .int a3)]) X.hx X.hb dX0_digOn_82 hl (by decide) rfl (fun ls hl => ?_)
      refine wX0_digOn_L84 l _ rec b0 b1 a2 a3 X hr hlk hrec 10000 _ _ _ _ _ hf h (lv_sub hl [1, 2, 3, 4, 0] rfl)
    clear ej3
    refine lv_if_ne (tgt := 74) X.hx X.hb dX0_digOn_67 (by decide) (fun hc => ?_) (fun hc => ?_)
    · replace hf := gif_f hf hc
      clear hc
      refine lv_aload_n X.hx X.hb dX0_digOn_74 rfl (lv_at hl 0 rfl) ?_
      refine r_getP X h (ci := 0) (k := 24) (C := RX0) (T := TX0) (N := 36) rfl in_X0 (by decide) q166 rfl dX0_digOn_75 hf (fun i13 hf => ?_)
      refine lv_iload_n X.hx X.hb dX0_digOn_78 rfl (lv_at hl 2 rfl) ?_
      refine lv_iconst (v := 1) X.hx X.hb dX0_digOn_79 (by decide) ?_
      refine lv_isub X.hx X.hb dX0_digOn_80 ?_
      refine r_iald X h dX0_digOn_81 hf (fun x14 hf => ?_)
      exact hj3 _ _ _ _ _ hf h (lv_sub hl [0, 1, 2, 3] rfl)
    · replace hf := gif_t hf hc
      clear hc
      refine lv_iconst (v := 0) X.hx X.hb dX0_digOn_70 (by decide) ?_
      refine lv_goto (tgt := 82) X.hx X.hb dX0_digOn_71 (by decide) ?_
      exact hj3 _ _ _ _ _ hf h (lv_sub hl [0, 1, 2, 3] rfl)
  · replace hf := gif_t hf hc
    clear hc
    refine lv_aload_n X.hx X.hb dX0_digOn_4 rfl (lv_at hl 0 rfl) ?_
    refine r_getP X h (ci := 0) (k := 22) (C := RX0) (T := TX0) (N := 36) rfl in_X0 (by decide) q164 rfl dX0_digOn_5 hf (fun i15 hf => ?_)
    refine lv_aload_n X.hx X.hb dX0_digOn_8 rfl (lv_at hl 0 rfl) ?_
    refine r_getP X h (ci := 0) (k := 10) (C := RX0) (T := TX0) (N := 36) rfl in_X0 (by decide) q152 rfl dX0_digOn_9 hf (fun i16 hf => ?_)
    refine r_cVV (As := [.ref (ad i16)]) (rest := []) (C := RX1) (T := TX1) (N := 1) X h hf (fun res hres => wX1_take l Γ ad _ i15 i16 res hres) rfl (cwV 1 X.hts (lw_V q832 q833 q834 q83 q835) rfl rfl rfl (by decide +kernel) ⟨(by first | exact Nat.le_of_ble_eq_true rfl | omega | (dsimp only; omega)), (by first | exact Nat.le_of_ble_eq_true rfl | omega | (dsimp only; omega))⟩) rfl ⟨hl.1, Nat.le_of_ble_eq_true rfl, (by first | exact Nat.le_of_ble_eq_true rfl | omega | (dsimp only; omega)), (by first | exact Nat.le_of_ble_eq_true rfl | omega | (dsimp only; omega))⟩ rfl dX0_digOn_12 (fun μ17 H locs hf h => ?_)
    refine lv_iconst (v := 0) X.hx X.hb dX0_digOn_15 (by decide) ?_
    refine lv_istore (lv' := [(4, .int 0), (0, .ref (ad b0)), (1, .ref (ad b1)), (2, .int a2), (3, .int a3)]) X.hx X.hb dX0_digOn_16 hl (by decide) rfl (fun ls hl => ?_)
    refine wX0_digOn_L18 l _ rec b0 b1 a2 _ X hr hlk hrec (fun μ27 H locs ls hf h hl => ?_) 10000 _ _ _ _ _ hf h (lv_sub hl [1, 2, 3, 0] rfl)
    refine lv_aload_n X.hx X.hb dX0_digOn_46 rfl (lv_at hl 0 rfl) ?_
    refine lv_aload_n X.hx X.hb dX0_digOn_47 rfl (lv_at hl 0 rfl) ?_
    refine r_getP X h (ci := 0) (k := 22) (C := RX0) (T := TX0) (N := 36) rfl in_X0 (by decide) q164 rfl dX0_digOn_48 hf (fun i28 hf => ?_)
    refine lv_aload_n X.hx X.hb dX0_digOn_51 rfl (lv_at hl 1 rfl) ?_
    refine r_cVI (As := [.ref (ad i28), .ref (ad b1)]) (rest := []) (C := RX0) (T := TX0) (N := 36) X h hf (fun res hres => wX0_playOn l Γ ad _ b0 i28 b1 res hres) rfl (cwV 2 X.hts (lw_V q849 q851 qs18 q82 q852) rfl rfl rfl (by decide +kernel) ⟨(by first | exact Nat.le_of_ble_eq_true rfl | omega | (dsimp only; omega)), (by first | exact Nat.le_of_ble_eq_true rfl | omega | (dsimp only; omega))⟩) rfl ⟨hl.1, Nat.le_of_ble_eq_true rfl, (by first | exact Nat.le_of_ble_eq_true rfl | omega | (dsimp only; omega)), (by first | exact Nat.le_of_ble_eq_true rfl | omega | (dsimp only; omega))⟩ rfl dX0_digOn_52 (fun x29 μ30 H locs hf h => ?_)
    refine lv_aload_n X.hx X.hb dX0_digOn_55 rfl (lv_at hl 1 rfl) ?_
    refine r_len X h (t := 0) rfl dX0_digOn_56 hf (fun x31 hf => ?_)
    refine lv_icmp_ne (tgt := 64) X.hx X.hb dX0_digOn_57 (by decide) (fun hc => ?_) (fun hc => ?_)
    · replace hf := gif_f hf hc
      clear hc
      refine lv_iconst (v := 0) X.hx X.hb dX0_digOn_64 (by decide) ?_
      exact r_rz X h hr hlk ((by first | exact Nat.le_of_ble_eq_true rfl | omega | (dsimp only; omega))) ((by first | exact Nat.le_of_ble_eq_true rfl | omega | (dsimp only; omega))) dX0_digOn_65 hf
    · replace hf := gif_t hf hc
      clear hc
      refine lv_iconst (v := 1) X.hx X.hb dX0_digOn_60 (by decide) ?_
      refine lv_goto (tgt := 65) X.hx X.hb dX0_digOn_61 (by decide) ?_
      exact r_rz X h hr hlk ((by first | exact Nat.le_of_ble_eq_true rfl | omega | (dsimp only; omega))) ((by first | exact Nat.le_of_ble_eq_true rfl | omega | (dsimp only; omega))) dX0_digOn_65 hf
def fX0_digOn : Nat → gM → Nat → Nat → Int32 → Int32 → gR
  | 0, _, _, _, _, _ => none
  | d + 1, μ0, b0, b1, a2, a3 => fX0_digOn_B (fX0_digOn d) μ0 b0 b1 a2 a3
theorem wX0_digOn (l : Launch) (Γ : gG) : ∀ (dd : Nat) (ad : Nat → Nat) (μ0 : gM) (b0 : Nat) (b1 : Nat) (a2 : Int32) (a3 : Int32) (r : Option Value × gM), fX0_digOn dd μ0 b0 b1 a2 a3 = some r → gMt0 l Γ yX0_digOn (ws_ yX0_digOn cX0_digOn 5 (some .boolean)) ({ frames := 5 + dd, cells := 0, slots := 0, locals := 112 + dd * 24 } : Room) 0 0 ad μ0 [.ref (ad b0), .ref (ad b1), .int a2, .int a3] r := by
  intro dd
  induction dd with
  | zero =>
    intro ad μ0 b0 b1 a2 a3 r hf
    have hf : (none : gR) = some r := hf
    cases hf
  | succ dd ih =>
    intro ad μ0 b0 b1 a2 a3 r hf
    exact wX0_digOn_B l Γ dd (fX0_digOn dd) ih ad μ0 b0 b1 a2 a3 r hf
/-! X0_mix -/
def fX0_mix (μ0 : gM) (b0 : Nat) (a1 : Int32) : gR := gJ (gfld μ0 b0 0 35) fun x1 => gpf μ0 b0 0 35 (.long ((31 * x1) + ((a1 : Int32).toInt64))) fun μ2 => some (none, μ2)
set_option maxHeartbeats 4000000 in
theorem wX0_mix (l : Launch) (Γ : gG) (ad : Nat → Nat) (μ0 : gM) (b0 : Nat) (a1 : Int32) (r : Option Value × gM) (hf : fX0_mix μ0 b0 a1 = some r) : gMt0 l Γ yX0_mix (ws_ yX0_mix cX0_mix 2 none) ({ frames := 0, cells := 0, slots := 0, locals := 0 } : Room) 0 0 ad μ0 [.ref (ad b0), .int a1] r := by
  intro sz
  refine g_start (maxL := 2) (ret := none) (by decide) rfl g_all (Nat.le_of_ble_eq_true rfl) ?_
  intro p e s m below meth c ls hr hlk hnm X h hl
  generalize gA ad μ0 sz = A at X h ⊢
  generalize ([.ref (ad b0), .int a1] : List Value).toArray = args at X ⊢
  have X : gX p m c cX0_mix 2 s args "SandPiano" Γ A := X
  have hl : lv_has ls 2 [(0, .ref (ad b0)), (1, .int a1)] := hl
  show W p l e ({ frames := 0, cells := 0, slots := 0, locals := 0 } : Room) s m args below meth c s.heap [] 0 0 (MQ below (gQ0 Γ ad μ0.1 r A) args s 0 0 A) (F0 m 0 ls [])
  unfold fX0_mix at hf
  refine lv_aload_n X.hx X.hb dX0_mix_0 rfl (lv_at hl 0 rfl) ?_
  refine lv_ldc2 (v := 31) X.hx X.hb X.hown (X.hts _ q1048) dX0_mix_1 ?_
  refine lv_aload_n X.hx X.hb dX0_mix_4 rfl (lv_at hl 0 rfl) ?_
  refine r_getJ X h (ci := 0) (k := 35) (C := RX0) (T := TX0) (N := 36) rfl in_X0 (by decide) q177 rfl dX0_mix_5 hf (fun x1 hf => ?_)
  refine lv_lmul X.hx X.hb dX0_mix_8 ?_
  refine lv_iload_n X.hx X.hb dX0_mix_9 rfl (lv_at hl 1 rfl) ?_
  refine lv_i2l X.hx X.hb dX0_mix_10 rfl ?_
  refine lv_ladd X.hx X.hb dX0_mix_11 ?_
  refine r_put X h (ci := 0) (k := 35) (C := RX0) (T := TX0) (N := 36) (ty0 := tyX0) (ty := .long) (v := .long ((31 * x1) + ((a1 : Int32).toInt64))) rfl in_X0 tyX0_ok nmX0 (by decide) q177 rfl rfl (by decide +kernel) rfl rfl (fun j hj => by cases hj) dX0_mix_12 hf (fun μ2 H locs hf h => ?_)
  exact r_rv X h hr hlk (Nat.le_of_ble_eq_true rfl) (Nat.le_of_ble_eq_true rfl) dX0_mix_15 hf
/-! X4_kind -/
def fX4_kind (μ0 : gM) (b0 : Nat) : gR := some (some (.int 1), μ0)
set_option maxHeartbeats 4000000 in
theorem wX4_kind (l : Launch) (Γ : gG) (ad : Nat → Nat) (μ0 : gM) (b0 : Nat) (r : Option Value × gM) (hf : fX4_kind μ0 b0 = some r) : gMt0 l Γ yX4_kind (ws_ yX4_kind cX4_kind 1 (some .int)) ({ frames := 0, cells := 0, slots := 0, locals := 0 } : Room) 0 0 ad μ0 [.ref (ad b0)] r := by
  intro sz
  refine g_start (maxL := 1) (ret := (some .int)) (by decide) rfl g_all (Nat.le_of_ble_eq_true rfl) ?_
  intro p e s m below meth c ls hr hlk hnm X h hl
  generalize gA ad μ0 sz = A at X h ⊢
  generalize ([.ref (ad b0)] : List Value).toArray = args at X ⊢
  have X : gX p m c cX4_kind 1 s args "SandPiano$Bass" Γ A := X
  have hl : lv_has ls 1 [(0, .ref (ad b0))] := hl
  show W p l e ({ frames := 0, cells := 0, slots := 0, locals := 0 } : Room) s m args below meth c s.heap [] 0 0 (MQ below (gQ0 Γ ad μ0.1 r A) args s 0 0 A) (F0 m 0 ls [])
  unfold fX4_kind at hf
  refine lv_iconst (v := 1) X.hx X.hb dX4_kind_0 (by decide) ?_
  exact r_ri X h hr hlk (Nat.le_of_ble_eq_true rfl) (Nat.le_of_ble_eq_true rfl) dX4_kind_1 hf
/-! X6_kind -/
def fX6_kind (μ0 : gM) (b0 : Nat) : gR := some (some (.int 3), μ0)
set_option maxHeartbeats 4000000 in
theorem wX6_kind (l : Launch) (Γ : gG) (ad : Nat → Nat) (μ0 : gM) (b0 : Nat) (r : Option Value × gM) (hf : fX6_kind μ0 b0 = some r) : gMt0 l Γ yX6_kind (ws_ yX6_kind cX6_kind 1 (some .int)) ({ frames := 0, cells := 0, slots := 0, locals := 0 } : Room) 0 0 ad μ0 [.ref (ad b0)] r := by
  intro sz
  refine g_start (maxL := 1) (ret := (some .int)) (by decide) rfl g_all (Nat.le_of_ble_eq_true rfl) ?_
  intro p e s m below meth c ls hr hlk hnm X h hl
  generalize gA ad μ0 sz = A at X h ⊢
  generalize ([.ref (ad b0)] : List Value).toArray = args at X ⊢
  have X : gX p m c cX6_kind 1 s args "SandPiano$Crab" Γ A := X
  have hl : lv_has ls 1 [(0, .ref (ad b0))] := hl
  show W p l e ({ frames := 0, cells := 0, slots := 0, locals := 0 } : Room) s m args below meth c s.heap [] 0 0 (MQ below (gQ0 Γ ad μ0.1 r A) args s 0 0 A) (F0 m 0 ls [])
  unfold fX6_kind at hf
  refine lv_iconst (v := 3) X.hx X.hb dX6_kind_0 (by decide) ?_
  exact r_ri X h hr hlk (Nat.le_of_ble_eq_true rfl) (Nat.le_of_ble_eq_true rfl) dX6_kind_1 hf
/-! X7_kind -/
def fX7_kind (μ0 : gM) (b0 : Nat) : gR := some (some (.int 4), μ0)
set_option maxHeartbeats 4000000 in
theorem wX7_kind (l : Launch) (Γ : gG) (ad : Nat → Nat) (μ0 : gM) (b0 : Nat) (r : Option Value × gM) (hf : fX7_kind μ0 b0 = some r) : gMt0 l Γ yX7_kind (ws_ yX7_kind cX7_kind 1 (some .int)) ({ frames := 0, cells := 0, slots := 0, locals := 0 } : Room) 0 0 ad μ0 [.ref (ad b0)] r := by
  intro sz
  refine g_start (maxL := 1) (ret := (some .int)) (by decide) rfl g_all (Nat.le_of_ble_eq_true rfl) ?_
  intro p e s m below meth c ls hr hlk hnm X h hl
  generalize gA ad μ0 sz = A at X h ⊢
  generalize ([.ref (ad b0)] : List Value).toArray = args at X ⊢
  have X : gX p m c cX7_kind 1 s args "SandPiano$Drum" Γ A := X
  have hl : lv_has ls 1 [(0, .ref (ad b0))] := hl
  show W p l e ({ frames := 0, cells := 0, slots := 0, locals := 0 } : Room) s m args below meth c s.heap [] 0 0 (MQ below (gQ0 Γ ad μ0.1 r A) args s 0 0 A) (F0 m 0 ls [])
  unfold fX7_kind at hf
  refine lv_iconst (v := 4) X.hx X.hb dX7_kind_0 (by decide) ?_
  exact r_ri X h hr hlk (Nat.le_of_ble_eq_true rfl) (Nat.le_of_ble_eq_true rfl) dX7_kind_1 hf
/-! X3_kind -/
def fX3_kind (μ0 : gM) (b0 : Nat) : gR := some (some (.int 0), μ0)
set_option maxHeartbeats 4000000 in
theorem wX3_kind (l : Launch) (Γ : gG) (ad : Nat → Nat) (μ0 : gM) (b0 : Nat) (r : Option Value × gM) (hf : fX3_kind μ0 b0 = some r) : gMt0 l Γ yX3_kind (ws_ yX3_kind cX3_kind 1 (some .int)) ({ frames := 0, cells := 0, slots := 0, locals := 0 } : Room) 0 0 ad μ0 [.ref (ad b0)] r := by
  intro sz
  refine g_start (maxL := 1) (ret := (some .int)) (by decide) rfl g_all (Nat.le_of_ble_eq_true rfl) ?_
  intro p e s m below meth c ls hr hlk hnm X h hl
  generalize gA ad μ0 sz = A at X h ⊢
  generalize ([.ref (ad b0)] : List Value).toArray = args at X ⊢
  have X : gX p m c cX3_kind 1 s args "SandPiano$Key" Γ A := X
  have hl : lv_has ls 1 [(0, .ref (ad b0))] := hl
  show W p l e ({ frames := 0, cells := 0, slots := 0, locals := 0 } : Room) s m args below meth c s.heap [] 0 0 (MQ below (gQ0 Γ ad μ0.1 r A) args s 0 0 A) (F0 m 0 ls [])
  unfold fX3_kind at hf
  refine lv_iconst (v := 0) X.hx X.hb dX3_kind_0 (by decide) ?_
  exact r_ri X h hr hlk (Nat.le_of_ble_eq_true rfl) (Nat.le_of_ble_eq_true rfl) dX3_kind_1 hf
/-! X3_strength -/
def fX3_strength (μ0 : gM) (b0 : Nat) : gR := gI (gkld μ0 b0 1) fun x1 => some (some (.int x1), μ0)
set_option maxHeartbeats 4000000 in
theorem wX3_strength (l : Launch) (Γ : gG) (ad : Nat → Nat) (μ0 : gM) (b0 : Nat) (r : Option Value × gM) (hf : fX3_strength μ0 b0 = some r) : gMt0 l Γ yX3_strength (ws_ yX3_strength cX3_strength 1 (some .int)) ({ frames := 0, cells := 0, slots := 0, locals := 0 } : Room) 0 0 ad μ0 [.ref (ad b0)] r := by
  intro sz
  refine g_start (maxL := 1) (ret := (some .int)) (by decide) rfl g_all (Nat.le_of_ble_eq_true rfl) ?_
  intro p e s m below meth c ls hr hlk hnm X h hl
  generalize gA ad μ0 sz = A at X h ⊢
  generalize ([.ref (ad b0)] : List Value).toArray = args at X ⊢
  have X : gX p m c cX3_strength 1 s args "SandPiano$Key" Γ A := X
  have hl : lv_has ls 1 [(0, .ref (ad b0))] := hl
  show W p l e ({ frames := 0, cells := 0, slots := 0, locals := 0 } : Room) s m args below meth c s.heap [] 0 0 (MQ below (gQ0 Γ ad μ0.1 r A) args s 0 0 A) (F0 m 0 ls [])
  unfold fX3_strength at hf
  refine lv_aload_n X.hx X.hb dX3_strength_0 rfl (lv_at hl 0 rfl) ?_
  refine r_getK X h (k := 1) (by decide) q490 rfl dX3_strength_1 hf (fun x1 hf => ?_)
  exact r_ri X h hr hlk (Nat.le_of_ble_eq_true rfl) (Nat.le_of_ble_eq_true rfl) dX3_strength_4 hf
/-! X8_kind -/
def fX8_kind (μ0 : gM) (b0 : Nat) : gR := some (some (.int 5), μ0)
set_option maxHeartbeats 4000000 in
theorem wX8_kind (l : Launch) (Γ : gG) (ad : Nat → Nat) (μ0 : gM) (b0 : Nat) (r : Option Value × gM) (hf : fX8_kind μ0 b0 = some r) : gMt0 l Γ yX8_kind (ws_ yX8_kind cX8_kind 1 (some .int)) ({ frames := 0, cells := 0, slots := 0, locals := 0 } : Room) 0 0 ad μ0 [.ref (ad b0)] r := by
  intro sz
  refine g_start (maxL := 1) (ret := (some .int)) (by decide) rfl g_all (Nat.le_of_ble_eq_true rfl) ?_
  intro p e s m below meth c ls hr hlk hnm X h hl
  generalize gA ad μ0 sz = A at X h ⊢
  generalize ([.ref (ad b0)] : List Value).toArray = args at X ⊢
  have X : gX p m c cX8_kind 1 s args "SandPiano$Ring" Γ A := X
  have hl : lv_has ls 1 [(0, .ref (ad b0))] := hl
  show W p l e ({ frames := 0, cells := 0, slots := 0, locals := 0 } : Room) s m args below meth c s.heap [] 0 0 (MQ below (gQ0 Γ ad μ0.1 r A) args s 0 0 A) (F0 m 0 ls [])
  unfold fX8_kind at hf
  refine lv_iconst (v := 5) X.hx X.hb dX8_kind_0 (by decide) ?_
  exact r_ri X h hr hlk (Nat.le_of_ble_eq_true rfl) (Nat.le_of_ble_eq_true rfl) dX8_kind_1 hf
/-! X5_kind -/
def fX5_kind (μ0 : gM) (b0 : Nat) : gR := some (some (.int 2), μ0)
set_option maxHeartbeats 4000000 in
theorem wX5_kind (l : Launch) (Γ : gG) (ad : Nat → Nat) (μ0 : gM) (b0 : Nat) (r : Option Value × gM) (hf : fX5_kind μ0 b0 = some r) : gMt0 l Γ yX5_kind (ws_ yX5_kind cX5_kind 1 (some .int)) ({ frames := 0, cells := 0, slots := 0, locals := 0 } : Room) 0 0 ad μ0 [.ref (ad b0)] r := by
  intro sz
  refine g_start (maxL := 1) (ret := (some .int)) (by decide) rfl g_all (Nat.le_of_ble_eq_true rfl) ?_
  intro p e s m below meth c ls hr hlk hnm X h hl
  generalize gA ad μ0 sz = A at X h ⊢
  generalize ([.ref (ad b0)] : List Value).toArray = args at X ⊢
  have X : gX p m c cX5_kind 1 s args "SandPiano$Shell" Γ A := X
  have hl : lv_has ls 1 [(0, .ref (ad b0))] := hl
  show W p l e ({ frames := 0, cells := 0, slots := 0, locals := 0 } : Room) s m args below meth c s.heap [] 0 0 (MQ below (gQ0 Γ ad μ0.1 r A) args s 0 0 A) (F0 m 0 ls [])
  unfold fX5_kind at hf
  refine lv_iconst (v := 2) X.hx X.hb dX5_kind_0 (by decide) ?_
  exact r_ri X h hr hlk (Nat.le_of_ble_eq_true rfl) (Nat.le_of_ble_eq_true rfl) dX5_kind_1 hf
/-! X0_keyTells -/
def vX3_kind (μ : gM) (i : Nat) : gR := gkc μ i fun c => if c = 3 then fX3_kind μ i else if c = 4 then fX4_kind μ i else if c = 5 then fX5_kind μ i else if c = 6 then fX6_kind μ i else if c = 7 then fX7_kind μ i else if c = 8 then fX8_kind μ i else none
set_option maxHeartbeats 4000000 in
theorem wvX3_kind {p : Program} {l : Launch} {e : Env} {R : Room} {s : State} {m : MethodId} {args : Array Value} {below : List Frame} {meth : Method} {c : Code} {H : Heap} {locs : List Loc} {cells slots : Nat} {Q : State → Prop} {cc : ByteArray} {pc nL : Nat} {ls : Array Slot} {rest st0 : List Value} {own : String} {Γ : gG} {A : Nat → Prop} {nz : Nat} {ad : Nat → Nat} {μ : gM} {r : Option Value × gM} {i index : Nat} {kt : Int32 → gM → gR} (X : gX p m c cc nL s args own Γ A) (h : gWd Γ A nz ad μ s.heap H locs) (hl : Cond.methodLink own index ⟨"SandPiano$Key", "kind", "()I"⟩ ∈ lw_all) (hF : 1 ≤ R.frames) (hL : 20 ≤ R.locals) (hg : gSt m ls nL R cells slots 0 0 rest) (hst : st0 = ([] : List Value).reverse ++ .ref (ad i) :: rest) (d : decode cc pc = .ok (.invokevirtual index, 3)) (hf : cI (vX3_kind μ i) kt = some r)
    (kk : ∀ (x : Int32) (μ1 : gM) (H1 : Heap) (locs1 : List Loc), kt x μ1 = some r → gWd Γ A nz ad μ1 s.heap H1 locs1 → W p l e R s m args below meth c H1 locs1 cells slots Q (F0 m (pc + 3) ls (.int x :: rest))) : W p l e R s m args below meth c H locs cells slots Q (F0 m pc ls st0) := by
  obtain ⟨x, μ1, ho, hf⟩ := cI_some hf
  obtain ⟨ci, fs, he, ho⟩ := gkc_some ho
  by_cases hc3 : ci = 3
  · subst hc3
    rw [if_pos rfl] at ho
    exact r_back0 X h (g_runU (As := []) X h he (wX3_kind l Γ ad μ i _ ho _) (T := TX3) rfl (va_cwU (owner := "SandPiano$Key") (x := ⟨"SandPiano$Key", "kind", "()I"⟩) 0 X.hts (lw_U hl q560 q559 q558 q95 q576) rfl rfl rfl rfl (by decide +kernel) ⟨Nat.le_trans (Nat.le_of_ble_eq_true rfl) hF, Nat.le_trans (Nat.le_of_ble_eq_true rfl) hL⟩) rfl hg hst d) (fun H1 locs1 h1 => kk x μ1 H1 locs1 hf h1)
  rw [if_neg hc3] at ho
  by_cases hc4 : ci = 4
  · subst hc4
    rw [if_pos rfl] at ho
    exact r_back0 X h (g_runU (As := []) X h he (wX4_kind l Γ ad μ i _ ho _) (T := TX4) rfl (va_cwO (owner := "SandPiano$Key") (x := ⟨"SandPiano$Key", "kind", "()I"⟩) 0 X.hts (lw_O hl q560 q558 q561 q562 q96 q563) rfl rfl rfl q576 (by decide +kernel) ⟨Nat.le_trans (Nat.le_of_ble_eq_true rfl) hF, Nat.le_trans (Nat.le_of_ble_eq_true rfl) hL⟩) rfl hg hst d) (fun H1 locs1 h1 => kk x μ1 H1 locs1 hf h1)
  rw [if_neg hc4] at ho
  by_cases hc5 : ci = 5
  · subst hc5
    rw [if_pos rfl] at ho
    exact r_back0 X h (g_runU (As := []) X h he (wX5_kind l Γ ad μ i _ ho _) (T := TX5) rfl (va_cwO (owner := "SandPiano$Key") (x := ⟨"SandPiano$Key", "kind", "()I"⟩) 0 X.hts (lw_O hl q560 q558 q573 q574 q97 q575) rfl rfl rfl q576 (by decide +kernel) ⟨Nat.le_trans (Nat.le_of_ble_eq_true rfl) hF, Nat.le_trans (Nat.le_of_ble_eq_true rfl) hL⟩) rfl hg hst d) (fun H1 locs1 h1 => kk x μ1 H1 locs1 hf h1)
  rw [if_neg hc5] at ho
  by_cases hc6 : ci = 6
  · subst hc6
    rw [if_pos rfl] at ho
    exact r_back0 X h (g_runU (As := []) X h he (wX6_kind l Γ ad μ i _ ho _) (T := TX6) rfl (va_cwO (owner := "SandPiano$Key") (x := ⟨"SandPiano$Key", "kind", "()I"⟩) 0 X.hts (lw_O hl q560 q558 q564 q565 q98 q566) rfl rfl rfl q576 (by decide +kernel) ⟨Nat.le_trans (Nat.le_of_ble_eq_true rfl) hF, Nat.le_trans (Nat.le_of_ble_eq_true rfl) hL⟩) rfl hg hst d) (fun H1 locs1 h1 => kk x μ1 H1 locs1 hf h1)
  rw [if_neg hc6] at ho
  by_cases hc7 : ci = 7
  · subst hc7
    rw [if_pos rfl] at ho
    exact r_back0 X h (g_runU (As := []) X h he (wX7_kind l Γ ad μ i _ ho _) (T := TX7) rfl (va_cwO (owner := "SandPiano$Key") (x := ⟨"SandPiano$Key", "kind", "()I"⟩) 0 X.hts (lw_O hl q560 q558 q567 q568 q99 q569) rfl rfl rfl q576 (by decide +kernel) ⟨Nat.le_trans (Nat.le_of_ble_eq_true rfl) hF, Nat.le_trans (Nat.le_of_ble_eq_true rfl) hL⟩) rfl hg hst d) (fun H1 locs1 h1 => kk x μ1 H1 locs1 hf h1)
  rw [if_neg hc7] at ho
  by_cases hc8 : ci = 8
  · subst hc8
    rw [if_pos rfl] at ho
    exact r_back0 X h (g_runU (As := []) X h he (wX8_kind l Γ ad μ i _ ho _) (T := TX8) rfl (va_cwO (owner := "SandPiano$Key") (x := ⟨"SandPiano$Key", "kind", "()I"⟩) 0 X.hts (lw_O hl q560 q558 q570 q571 q100 q572) rfl rfl rfl q576 (by decide +kernel) ⟨Nat.le_trans (Nat.le_of_ble_eq_true rfl) hF, Nat.le_trans (Nat.le_of_ble_eq_true rfl) hL⟩) rfl hg hst d) (fun H1 locs1 h1 => kk x μ1 H1 locs1 hf h1)
  rw [if_neg hc8] at ho
  cases ho
def vX3_strength (μ : gM) (i : Nat) : gR := gkc μ i fun c => if c = 3 then fX3_strength μ i else if c = 4 then fX3_strength μ i else if c = 5 then fX3_strength μ i else if c = 6 then fX3_strength μ i else if c = 7 then fX3_strength μ i else if c = 8 then fX3_strength μ i else none
set_option maxHeartbeats 4000000 in
theorem wvX3_strength {p : Program} {l : Launch} {e : Env} {R : Room} {s : State} {m : MethodId} {args : Array Value} {below : List Frame} {meth : Method} {c : Code} {H : Heap} {locs : List Loc} {cells slots : Nat} {Q : State → Prop} {cc : ByteArray} {pc nL : Nat} {ls : Array Slot} {rest st0 : List Value} {own : String} {Γ : gG} {A : Nat → Prop} {nz : Nat} {ad : Nat → Nat} {μ : gM} {r : Option Value × gM} {i index : Nat} {kt : Int32 → gM → gR} (X : gX p m c cc nL s args own Γ A) (h : gWd Γ A nz ad μ s.heap H locs) (hl : Cond.methodLink own index ⟨"SandPiano$Key", "strength", "()I"⟩ ∈ lw_all) (hF : 1 ≤ R.frames) (hL : 20 ≤ R.locals) (hg : gSt m ls nL R cells slots 0 0 rest) (hst : st0 = ([] : List Value).reverse ++ .ref (ad i) :: rest) (d : decode cc pc = .ok (.invokevirtual index, 3)) (hf : cI (vX3_strength μ i) kt = some r)
    (kk : ∀ (x : Int32) (μ1 : gM) (H1 : Heap) (locs1 : List Loc), kt x μ1 = some r → gWd Γ A nz ad μ1 s.heap H1 locs1 → W p l e R s m args below meth c H1 locs1 cells slots Q (F0 m (pc + 3) ls (.int x :: rest))) : W p l e R s m args below meth c H locs cells slots Q (F0 m pc ls st0) := by
  obtain ⟨x, μ1, ho, hf⟩ := cI_some hf
  obtain ⟨ci, fs, he, ho⟩ := gkc_some ho
  by_cases hc3 : ci = 3
  · subst hc3
    rw [if_pos rfl] at ho
    exact r_back0 X h (g_runU (As := []) X h he (wX3_strength l Γ ad μ i _ ho _) (T := TX3) rfl (va_cwU (owner := "SandPiano$Key") (x := ⟨"SandPiano$Key", "strength", "()I"⟩) 0 X.hts (lw_U hl q580 q579 q578 q95 q586) rfl rfl rfl rfl (by decide +kernel) ⟨Nat.le_trans (Nat.le_of_ble_eq_true rfl) hF, Nat.le_trans (Nat.le_of_ble_eq_true rfl) hL⟩) rfl hg hst d) (fun H1 locs1 h1 => kk x μ1 H1 locs1 hf h1)
  rw [if_neg hc3] at ho
  by_cases hc4 : ci = 4
  · subst hc4
    rw [if_pos rfl] at ho
    exact r_back0 X h (g_runU (As := []) X h he (wX3_strength l Γ ad μ i _ ho _) (T := TX4) rfl (va_cwU (owner := "SandPiano$Key") (x := ⟨"SandPiano$Key", "strength", "()I"⟩) 0 X.hts (lw_U hl q580 q581 q578 q95 q586) rfl rfl rfl rfl (by decide +kernel) ⟨Nat.le_trans (Nat.le_of_ble_eq_true rfl) hF, Nat.le_trans (Nat.le_of_ble_eq_true rfl) hL⟩) rfl hg hst d) (fun H1 locs1 h1 => kk x μ1 H1 locs1 hf h1)
  rw [if_neg hc4] at ho
  by_cases hc5 : ci = 5
  · subst hc5
    rw [if_pos rfl] at ho
    exact r_back0 X h (g_runU (As := []) X h he (wX3_strength l Γ ad μ i _ ho _) (T := TX5) rfl (va_cwU (owner := "SandPiano$Key") (x := ⟨"SandPiano$Key", "strength", "()I"⟩) 0 X.hts (lw_U hl q580 q585 q578 q95 q586) rfl rfl rfl rfl (by decide +kernel) ⟨Nat.le_trans (Nat.le_of_ble_eq_true rfl) hF, Nat.le_trans (Nat.le_of_ble_eq_true rfl) hL⟩) rfl hg hst d) (fun H1 locs1 h1 => kk x μ1 H1 locs1 hf h1)
  rw [if_neg hc5] at ho
  by_cases hc6 : ci = 6
  · subst hc6
    rw [if_pos rfl] at ho
    exact r_back0 X h (g_runU (As := []) X h he (wX3_strength l Γ ad μ i _ ho _) (T := TX6) rfl (va_cwU (owner := "SandPiano$Key") (x := ⟨"SandPiano$Key", "strength", "()I"⟩) 0 X.hts (lw_U hl q580 q582 q578 q95 q586) rfl rfl rfl rfl (by decide +kernel) ⟨Nat.le_trans (Nat.le_of_ble_eq_true rfl) hF, Nat.le_trans (Nat.le_of_ble_eq_true rfl) hL⟩) rfl hg hst d) (fun H1 locs1 h1 => kk x μ1 H1 locs1 hf h1)
  rw [if_neg hc6] at ho
  by_cases hc7 : ci = 7
  · subst hc7
    rw [if_pos rfl] at ho
    exact r_back0 X h (g_runU (As := []) X h he (wX3_strength l Γ ad μ i _ ho _) (T := TX7) rfl (va_cwU (owner := "SandPiano$Key") (x := ⟨"SandPiano$Key", "strength", "()I"⟩) 0 X.hts (lw_U hl q580 q583 q578 q95 q586) rfl rfl rfl rfl (by decide +kernel) ⟨Nat.le_trans (Nat.le_of_ble_eq_true rfl) hF, Nat.le_trans (Nat.le_of_ble_eq_true rfl) hL⟩) rfl hg hst d) (fun H1 locs1 h1 => kk x μ1 H1 locs1 hf h1)
  rw [if_neg hc7] at ho
  by_cases hc8 : ci = 8
  · subst hc8
    rw [if_pos rfl] at ho
    exact r_back0 X h (g_runU (As := []) X h he (wX3_strength l Γ ad μ i _ ho _) (T := TX8) rfl (va_cwU (owner := "SandPiano$Key") (x := ⟨"SandPiano$Key", "strength", "()I"⟩) 0 X.hts (lw_U hl q580 q584 q578 q95 q586) rfl rfl rfl rfl (by decide +kernel) ⟨Nat.le_trans (Nat.le_of_ble_eq_true rfl) hF, Nat.le_trans (Nat.le_of_ble_eq_true rfl) hL⟩) rfl hg hst d) (fun H1 locs1 h1 => kk x μ1 H1 locs1 hf h1)
  rw [if_neg hc8] at ho
  cases ho
def fX0_keyTells (μ0 : gM) (b0 : Nat) (a1 : Int32) (a2 : Int32) : gR := gP (gfld μ0 b0 0 9) fun i1 => gaQ μ0 5 i1 a1 fun o2 => gnn o2 fun i3 => if a2 = 0 then (cI (vX3_kind μ0 i3) fun x4 μ5 => some (some (.int x4), μ5)) else if a2 = 1 then (cI (vX3_strength μ0 i3) fun x6 μ7 => some (some (.int x6), μ7)) else if a2 = 2 then (gP (gfld μ0 b0 0 10) fun i8 => gP (gfld μ0 i8 1 0) fun i9 => gaI μ0 0 i9 a1 fun x10 => some (some (.int x10), μ0)) else if a2 = 3 then (cI (vX3_pay μ0 i3) fun x11 μ12 => some (some (.int x11), μ12)) else (gP (gfld μ0 b0 0 10) fun i13 => cI (vX3_plays μ0 i3 i13) fun x14 μ15 => if x14 = 0 then (some (some (.int 0), μ15)) else (some (some (.int 1), μ15)))
set_option maxHeartbeats 4000000 in
theorem wX0_keyTells (l : Launch) (Γ : gG) (ad : Nat → Nat) (μ0 : gM) (b0 : Nat) (a1 : Int32) (a2 : Int32) (r : Option Value × gM) (hf : fX0_keyTells μ0 b0 a1 a2 = some r) : gMt0 l Γ yX0_keyTells (ws_ yX0_keyTells cX0_keyTells 4 (some .int)) ({ frames := 3, cells := 0, slots := 0, locals := 61 } : Room) 0 0 ad μ0 [.ref (ad b0), .int a1, .int a2] r := by
  intro sz
  refine g_start (maxL := 4) (ret := (some .int)) (by decide) rfl g_all (Nat.le_of_ble_eq_true rfl) ?_
  intro p e s m below meth c ls hr hlk hnm X h hl
  generalize gA ad μ0 sz = A at X h ⊢
  generalize ([.ref (ad b0), .int a1, .int a2] : List Value).toArray = args at X ⊢
  have X : gX p m c cX0_keyTells 4 s args "SandPiano" Γ A := X
  have hl : lv_has ls 4 [(0, .ref (ad b0)), (1, .int a1), (2, .int a2)] := hl
  show W p l e ({ frames := 3, cells := 0, slots := 0, locals := 61 } : Room) s m args below meth c s.heap [] 0 0 (MQ below (gQ0 Γ ad μ0.1 r A) args s 0 0 A) (F0 m 0 ls [])
  unfold fX0_keyTells at hf
  refine lv_aload_n X.hx X.hb dX0_keyTells_0 rfl (lv_at hl 0 rfl) ?_
  refine r_getP X h (ci := 0) (k := 9) (C := RX0) (T := TX0) (N := 36) rfl in_X0 (by decide) q151 rfl dX0_keyTells_1 hf (fun i1 hf => ?_)
  refine lv_iload_n X.hx X.hb dX0_keyTells_4 rfl (lv_at hl 1 rfl) ?_
  refine r_aald X h (t := 5) rfl rfl dX0_keyTells_5 hf (fun o2 hf => ?_)
  refine r_nn hf (fun i3 hf => ?_)
  refine lv_astore_n (lv' := [(3, .ref (ad i3)), (0, .ref (ad b0)), (1, .int a1), (2, .int a2)]) X.hx X.hb dX0_keyTells_6 rfl hl (by decide) rfl (fun ls hl => ?_)
  refine lv_iload_n X.hx X.hb dX0_keyTells_7 rfl (lv_at hl 3 rfl) ?_
  by_cases hc0 : a2 = 0
  · replace hf := gif_t hf hc0
    refine lv_tableIn (tgt := 40) X.hx X.hb dX0_keyTells_8 (by rw [hc0]; decide) (by rw [hc0]; decide) (by rw [hc0]; rfl) (by decide) ?_
    clear hc0
    refine lv_aload_n X.hx X.hb dX0_keyTells_40 rfl (lv_at hl 0 rfl) ?_
    refine wvX3_kind X h q557 (Nat.le_of_ble_eq_true rfl) (Nat.le_of_ble_eq_true rfl) (rest := []) ⟨hl.1, Nat.le_of_ble_eq_true rfl, Nat.le_of_ble_eq_true rfl, Nat.le_of_ble_eq_true rfl⟩ rfl dX0_keyTells_41 hf (fun x4 μ5 H locs hf h => ?_)
    exact r_ri X h hr hlk (Nat.le_of_ble_eq_true rfl) (Nat.le_of_ble_eq_true rfl) dX0_keyTells_44 hf
  replace hf := gif_f hf hc0
  by_cases hc1 : a2 = 1
  · replace hf := gif_t hf hc1
    refine lv_tableIn (tgt := 45) X.hx X.hb dX0_keyTells_8 (by rw [hc1]; decide) (by rw [hc1]; decide) (by rw [hc1]; rfl) (by decide) ?_
    clear hc1
    refine lv_aload_n X.hx X.hb dX0_keyTells_45 rfl (lv_at hl 0 rfl) ?_
    refine wvX3_strength X h q577 (Nat.le_of_ble_eq_true rfl) (Nat.le_of_ble_eq_true rfl) (rest := []) ⟨hl.1, Nat.le_of_ble_eq_true rfl, Nat.le_of_ble_eq_true rfl, Nat.le_of_ble_eq_true rfl⟩ rfl dX0_keyTells_46 hf (fun x6 μ7 H locs hf h => ?_)
    exact r_ri X h hr hlk (Nat.le_of_ble_eq_true rfl) (Nat.le_of_ble_eq_true rfl) dX0_keyTells_49 hf
  replace hf := gif_f hf hc1
  by_cases hc2 : a2 = 2
  · replace hf := gif_t hf hc2
    refine lv_tableIn (tgt := 50) X.hx X.hb dX0_keyTells_8 (by rw [hc2]; decide) (by rw [hc2]; decide) (by rw [hc2]; rfl) (by decide) ?_
    clear hc2
    refine lv_aload_n X.hx X.hb dX0_keyTells_50 rfl (lv_at hl 1 rfl) ?_
    refine r_getP X h (ci := 0) (k := 10) (C := RX0) (T := TX0) (N := 36) rfl in_X0 (by decide) q152 rfl dX0_keyTells_51 hf (fun i8 hf => ?_)
    refine r_getNP X h (ci := 1) (k := 0) (C := RX1) (T := TX1) (N := 1) rfl in_X1 (by decide) 8 rfl rfl dX0_keyTells_54 hf (fun i9 hf => ?_)
    refine lv_iload_n X.hx X.hb dX0_keyTells_57 rfl (lv_at hl 2 rfl) ?_
    refine r_iald X h dX0_keyTells_58 hf (fun x10 hf => ?_)
    exact r_ri X h hr hlk (Nat.le_of_ble_eq_true rfl) (Nat.le_of_ble_eq_true rfl) dX0_keyTells_59 hf
  replace hf := gif_f hf hc2
  by_cases hc3 : a2 = 3
  · replace hf := gif_t hf hc3
    refine lv_tableIn (tgt := 60) X.hx X.hb dX0_keyTells_8 (by rw [hc3]; decide) (by rw [hc3]; decide) (by rw [hc3]; rfl) (by decide) ?_
    clear hc3
    refine lv_aload_n X.hx X.hb dX0_keyTells_60 rfl (lv_at hl 0 rfl) ?_
    refine wvX3_pay X h q587 (Nat.le_of_ble_eq_true rfl) (Nat.le_of_ble_eq_true rfl) (rest := []) ⟨hl.1, Nat.le_of_ble_eq_true rfl, Nat.le_of_ble_eq_true rfl, Nat.le_of_ble_eq_true rfl⟩ rfl dX0_keyTells_61 hf (fun x11 μ12 H locs hf h => ?_)
    exact r_ri X h hr hlk (Nat.le_of_ble_eq_true rfl) (Nat.le_of_ble_eq_true rfl) dX0_keyTells_64 hf
  replace hf := gif_f hf hc3
  have hn0 : (a2 : Int32).toInt ≠ 0 := fun h9 => hc0 (Int32.toInt_inj.mp (h9.trans (by decide)))
  have hn1 : (a2 : Int32).toInt ≠ 1 := fun h9 => hc1 (Int32.toInt_inj.mp (h9.trans (by decide)))
  have hn2 : (a2 : Int32).toInt ≠ 2 := fun h9 => hc2 (Int32.toInt_inj.mp (h9.trans (by decide)))
  have hn3 : (a2 : Int32).toInt ≠ 3 := fun h9 => hc3 (Int32.toInt_inj.mp (h9.trans (by decide)))
  refine lv_tableOut (tgt := 65) X.hx X.hb dX0_keyTells_8 (by omega) (by decide) ?_
  clear hn0 hn1 hn2 hn3 hc0 hc1 hc2 hc3
  refine lv_aload_n X.hx X.hb dX0_keyTells_65 rfl (lv_at hl 0 rfl) ?_
  refine lv_aload_n X.hx X.hb dX0_keyTells_66 rfl (lv_at hl 1 rfl) ?_
  refine r_getP X h (ci := 0) (k := 10) (C := RX0) (T := TX0) (N := 36) rfl in_X0 (by decide) q152 rfl dX0_keyTells_67 hf (fun i13 hf => ?_)
  refine wvX3_plays X h q597 (Nat.le_of_ble_eq_true rfl) (Nat.le_of_ble_eq_true rfl) (rest := []) ⟨hl.1, Nat.le_of_ble_eq_true rfl, Nat.le_of_ble_eq_true rfl, Nat.le_of_ble_eq_true rfl⟩ rfl dX0_keyTells_70 hf (fun x14 μ15 H locs hf h => ?_)
  refine lv_if_eq (tgt := 80) X.hx X.hb dX0_keyTells_73 (by decide) (fun hc => ?_) (fun hc => ?_)
  · replace hf := gif_t hf hc
    clear hc
    refine lv_iconst (v := 0) X.hx X.hb dX0_keyTells_80 (by decide) ?_
    exact r_ri X h hr hlk (Nat.le_of_ble_eq_true rfl) (Nat.le_of_ble_eq_true rfl) dX0_keyTells_81 hf
  · replace hf := gif_f hf hc
    clear hc
    refine lv_iconst (v := 1) X.hx X.hb dX0_keyTells_76 (by decide) ?_
    refine lv_goto (tgt := 81) X.hx X.hb dX0_keyTells_77 (by decide) ?_
    exact r_ri X h hr hlk (Nat.le_of_ble_eq_true rfl) (Nat.le_of_ble_eq_true rfl) dX0_keyTells_81 hf
