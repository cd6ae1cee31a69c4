set_option maxRecDepth 100000
/-! X2_figure -/
def fX2_figure (μ0 : gM) (b0 : Nat) (a1 : Int32) (a2 : Int32) : gR := gI (gfld μ0 b0 2 15) fun x1 => gis μ0 b0 2 <| cI (fX2_byteAt μ0 b0 a1 x1) fun x2 μ3 => gpf μ3 b0 2 16 (.int (x2 - 48)) fun μ4 => gI (gfld μ4 b0 2 16) fun x5 => cI (fX2_in μ4 x5 a2 9) fun x6 μ7 => gI (gfld μ7 b0 2 15) fun x8 => gjn (fun (x9 : Int32) (μ10 : gM) => gpf μ10 b0 2 15 (.int (x8 + x9)) fun μ12 => rZ x6 μ12) fun j11 => if x6 = 0 then (j11 0 μ7) else (j11 1 μ7)
set_option maxHeartbeats 4000000 in
theorem wX2_figure (l : Launch) (Γ : gG) (ad : Nat → Nat) (μ0 : gM) (b0 : Nat) (a1 : Int32) (a2 : Int32) (r : Option Value × gM) (hf : fX2_figure μ0 b0 a1 a2 = some r) : gMt0 l Γ yX2_figure (ws_ yX2_figure cX2_figure 4 (some .boolean)) ({ frames := 1, cells := 0, slots := 0, locals := 22 } : Room) 0 0 ad μ0 [.ref (ad b0), .int a1, .int a2] r := by
  intro sz
  refine g_start (maxL := 4) (ret := (some .boolean)) (by decide) rfl g_all (Nat.le_of_ble_eq_true rfl) ?_
  intro p e s m below meth c ls hr hlk hnm X h hl
  generalize gA ad μ0 sz = A at X h ⊢
  generalize ([.ref (ad b0), .int a1, .int a2] : List Value).toArray = args at X ⊢
  have X : gX p m c cX2_figure 4 s args "SandPianoModel" Γ A := X
  have hl : lv_has ls 4 [(0, .ref (ad b0)), (1, .int a1), (2, .int a2)] := hl
  show W p l e ({ frames := 1, cells := 0, slots := 0, locals := 22 } : Room) s m args below meth c s.heap [] 0 0 (MQ below (gQ0 Γ ad μ0.1 r A) args s 0 0 A) (F0 m 0 ls [])
  unfold fX2_figure at hf
  refine lv_aload_n X.hx X.hb dX2_figure_0 rfl (lv_at hl 0 rfl) ?_
  refine lv_aload_n X.hx X.hb dX2_figure_1 rfl (lv_at hl 0 rfl) ?_
  refine lv_iload_n X.hx X.hb dX2_figure_2 rfl (lv_at hl 1 rfl) ?_
  refine lv_aload_n X.hx X.hb dX2_figure_3 rfl (lv_at hl 0 rfl) ?_
  refine r_getI X h (ci := 2) (k := 15) (C := RX2) (T := TX2) (N := 36) rfl in_X2 (by decide) q1074 rfl dX2_figure_4 hf (fun x1 hf => ?_)
  refine r_cVI (As := [.int a1, .int x1]) (rest := [.ref (ad b0)]) (C := RX2) (T := TX2) (N := 36) X h hf (fun res hres => wX2_byteAt l Γ ad _ b0 a1 x1 res hres) rfl (cwV 2 X.hts (lw_V q1250 q1252 qs42 q84 q1253) rfl rfl rfl (by decide +kernel) ⟨Nat.le_of_ble_eq_true rfl, Nat.le_of_ble_eq_true rfl⟩) rfl ⟨hl.1, Nat.le_of_ble_eq_true rfl, Nat.le_of_ble_eq_true rfl, Nat.le_of_ble_eq_true rfl⟩ rfl dX2_figure_7 (fun x2 μ3 H locs hf h => ?_)
  refine lv_bipush (v := 48) X.hx X.hb dX2_figure_10 (by decide) ?_
  refine lv_isub X.hx X.hb dX2_figure_12 ?_
  refine r_put X h (ci := 2) (k := 16) (C := RX2) (T := TX2) (N := 36) (ty0 := tyX2) (ty := .int) (v := .int (x2 - 48)) rfl in_X2 tyX2_ok nmX2 (by decide) q1075 rfl rfl (by decide +kernel) rfl rfl (fun j hj => by cases hj) dX2_figure_13 hf (fun μ4 H locs hf h => ?_)
  refine lv_aload_n X.hx X.hb dX2_figure_16 rfl (lv_at hl 0 rfl) ?_
  refine r_getI X h (ci := 2) (k := 16) (C := RX2) (T := TX2) (N := 36) rfl in_X2 (by decide) q1075 rfl dX2_figure_17 hf (fun x5 hf => ?_)
  refine lv_iload_n X.hx X.hb dX2_figure_20 rfl (lv_at hl 2 rfl) ?_
  refine lv_bipush (v := 9) X.hx X.hb dX2_figure_21 (by decide) ?_
  refine r_cSI (As := [.int x5, .int a2, .int 9]) (rest := []) X h hf (fun res hres => wX2_in l Γ ad _ x5 a2 9 res hres) (va_cwS 3 X.hts (lw_S q1177 q1178 q84 q1179) rfl rfl rfl (by decide +kernel) ⟨Nat.le_of_ble_eq_true rfl, Nat.le_of_ble_eq_true rfl⟩) rfl ⟨hl.1, Nat.le_of_ble_eq_true rfl, Nat.le_of_ble_eq_true rfl, Nat.le_of_ble_eq_true rfl⟩ rfl dX2_figure_23 (fun x6 μ7 H locs hf h => ?_)
  refine lv_istore_n (lv' := [(3, .int x6), (0, .ref (ad b0)), (1, .int a1), (2, .int a2)]) X.hx X.hb dX2_figure_26 rfl hl (by decide) rfl (fun ls hl => ?_)
  refine lv_aload_n X.hx X.hb dX2_figure_27 rfl (lv_at hl 1 rfl) ?_
  refine lv_dup X.hx X.hb dX2_figure_28 rfl ?_
  refine r_getI X h (ci := 2) (k := 15) (C := RX2) (T := TX2) (N := 36) rfl in_X2 (by decide) q1074 rfl dX2_figure_29 hf (fun x8 hf => ?_)
  refine lv_iload_n X.hx X.hb dX2_figure_32 rfl (lv_at hl 0 rfl) ?_
  refine r_jn hf (fun j11 ej11 hf => ?_)
  have hj11 : ∀ (x9 : Int32) (μ10 : gM) (H : Heap) (locs : List Loc) (ls : Array Slot), j11 x9 μ10 = some r → gWd Γ A μ0.1 ad μ10 s.heap H locs → lv_has ls 4 [(3, .int x6)] → W p l e ({ frames := 1, cells := 0, slots := 0, locals := 22 } : Room) s m args below meth c H locs 0 0 (MQ below (gQ0 Γ ad μ0.1 r A) args s 0 0 A) (F0 m 41 ls [.int x9, .int x8, .ref (ad b0)]) := by
    intro x9 μ10 H locs ls hf h hl
    rw [ej11] at hf
    refine lv_iadd X.hx X.hb dX2_figure_41 ?_
    refine r_put X h (ci := 2) (k := 15) (C := RX2) (T := TX2) (N := 36) (ty0 := tyX2) (ty := .int) (v := .int (x8 + x9)) rfl in_X2 tyX2_ok nmX2 (by decide) q1074 rfl rfl (by decide +kernel) rfl rfl (fun j hj => by cases hj) dX2_figure_42 hf (fun μ12 H locs hf h => ?_)
    refine lv_iload_n X.hx X.hb dX2_figure_45 rfl (lv_at hl 0 rfl) ?_
    exact r_rz X h hr hlk (Nat.le_of_ble_eq_true rfl) (Nat.le_of_ble_eq_true rfl) dX2_figure_46 hf
  clear ej11
  refine lv_if_eq (tgt := 40) X.hx X.hb dX2_figure_33 (by decide) (fun hc => ?_) (fun hc => ?_)
  · replace hf := gif_t hf hc
    clear hc
    refine lv_iconst (v := 0) X.hx X.hb dX2_figure_40 (by decide) ?_
    exact hj11 _ _ _ _ _ hf h (lv_sub hl [0] rfl)
  · replace hf := gif_f hf hc
    clear hc
    refine lv_iconst (v := 1) X.hx X.hb dX2_figure_36 (by decide) ?_
    refine lv_goto (tgt := 41) X.hx X.hb dX2_figure_37 (by decide) ?_
    exact hj11 _ _ _ _ _ hf h (lv_sub hl [0] rfl)
/-! X2_kindOf -/
def fX2_kindOf (μ0 : gM) (a1 : Int32) : gR := if a1 = 98 then (some (some (.int 1), μ0)) else if a1 = 99 then (some (some (.int 3), μ0)) else if a1 = 100 then (some (some (.int 4), μ0)) else if a1 = 101 then (some (some (.int (-9)), μ0)) else if a1 = 102 then (some (some (.int (-9)), μ0)) else if a1 = 103 then (some (some (.int (-9)), μ0)) else if a1 = 104 then (some (some (.int (-9)), μ0)) else if a1 = 105 then (some (some (.int (-9)), μ0)) else if a1 = 106 then (some (some (.int (-9)), μ0)) else if a1 = 107 then (some (some (.int 0), μ0)) else if a1 = 108 then (some (some (.int (-9)), μ0)) else if a1 = 109 then (some (some (.int (-9)), μ0)) else if a1 = 110 then (some (some (.int (-9)), μ0)) else if a1 = 111 then (some (some (.int (-9)), μ0)) else if a1 = 112 then (some (some (.int (-9)), μ0)) else if a1 = 113 then (some (some (.int (-9)), μ0)) else if a1 = 114 then (some (some (.int 5), μ0)) else if a1 = 115 then (some (some (.int 2), μ0)) else (some (some (.int (-9)), μ0))
set_option maxHeartbeats 4000000 in
theorem wX2_kindOf (l : Launch) (Γ : gG) (ad : Nat → Nat) (μ0 : gM) (a1 : Int32) (r : Option Value × gM) (hf : fX2_kindOf μ0 a1 = some r) : gMt0 l Γ yX2_kindOf (ws_ yX2_kindOf cX2_kindOf 1 (some .int)) ({ frames := 0, cells := 0, slots := 0, locals := 0 } : Room) 0 0 ad μ0 [.int a1] r := by
  intro sz
  refine g_start (maxL := 1) (ret := (some .int)) (by decide) rfl g_all (Nat.le_of_ble_eq_true rfl) ?_
  intro p e s m below meth c ls hr hlk hnm X h hl
  generalize gA ad μ0 sz = A at X h ⊢
  generalize ([.int a1] : List Value).toArray = args at X ⊢
  have X : gX p m c cX2_kindOf 1 s args "SandPianoModel" Γ A := X
  have hl : lv_has ls 1 [(0, .int a1)] := hl
  show W p l e ({ frames := 0, cells := 0, slots := 0, locals := 0 } : Room) s m args below meth c s.heap [] 0 0 (MQ below (gQ0 Γ ad μ0.1 r A) args s 0 0 A) (F0 m 0 ls [])
  unfold fX2_kindOf at hf
  refine lv_iload_n X.hx X.hb dX2_kindOf_0 rfl (lv_at hl 0 rfl) ?_
  by_cases hc0 : a1 = 98
  · replace hf := gif_t hf hc0
    refine lv_tableIn (tgt := 90) X.hx X.hb dX2_kindOf_1 (by rw [hc0]; decide) (by rw [hc0]; decide) (by rw [hc0]; rfl) (by decide) ?_
    clear hc0
    refine lv_iconst (v := 1) X.hx X.hb dX2_kindOf_90 (by decide) ?_
    exact r_ri X h hr hlk (Nat.le_of_ble_eq_true rfl) (Nat.le_of_ble_eq_true rfl) dX2_kindOf_91 hf
  replace hf := gif_f hf hc0
  by_cases hc1 : a1 = 99
  · replace hf := gif_t hf hc1
    refine lv_tableIn (tgt := 94) X.hx X.hb dX2_kindOf_1 (by rw [hc1]; decide) (by rw [hc1]; decide) (by rw [hc1]; rfl) (by decide) ?_
    clear hc1
    refine lv_iconst (v := 3) X.hx X.hb dX2_kindOf_94 (by decide) ?_
    exact r_ri X h hr hlk (Nat.le_of_ble_eq_true rfl) (Nat.le_of_ble_eq_true rfl) dX2_kindOf_95 hf
  replace hf := gif_f hf hc1
  by_cases hc2 : a1 = 100
  · replace hf := gif_t hf hc2
    refine lv_tableIn (tgt := 96) X.hx X.hb dX2_kindOf_1 (by rw [hc2]; decide) (by rw [hc2]; decide) (by rw [hc2]; rfl) (by decide) ?_
    clear hc2
    refine lv_iconst (v := 4) X.hx X.hb dX2_kindOf_96 (by decide) ?_
    exact r_ri X h hr hlk (Nat.le_of_ble_eq_true rfl) (Nat.le_of_ble_eq_true rfl) dX2_kindOf_97 hf
  replace hf := gif_f hf hc2
  by_cases hc3 : a1 = 101
  · replace hf := gif_t hf hc3
    refine lv_tableIn (tgt := 100) X.hx X.hb dX2_kindOf_1 (by rw [hc3]; decide) (by rw [hc3]; decide) (by rw [hc3]; rfl) (by decide) ?_
    clear hc3
    refine lv_bipush (v := (-9)) X.hx X.hb dX2_kindOf_100 (by decide) ?_
    exact r_ri X h hr hlk (Nat.le_of_ble_eq_true rfl) (Nat.le_of_ble_eq_true rfl) dX2_kindOf_102 hf
  replace hf := gif_f hf hc3
  by_cases hc4 : a1 = 102
  · replace hf := gif_t hf hc4
    refine lv_tableIn (tgt := 100) X.hx X.hb dX2_kindOf_1 (by rw [hc4]; decide) (by rw [hc4]; decide) (by rw [hc4]; rfl) (by decide) ?_
    clear hc4
    refine lv_bipush (v := (-9)) X.hx X.hb dX2_kindOf_100 (by decide) ?_
    exact r_ri X h hr hlk (Nat.le_of_ble_eq_true rfl) (Nat.le_of_ble_eq_true rfl) dX2_kindOf_102 hf
  replace hf := gif_f hf hc4
  by_cases hc5 : a1 = 103
  · replace hf := gif_t hf hc5
    refine lv_tableIn (tgt := 100) X.hx X.hb dX2_kindOf_1 (by rw [hc5]; decide) (by rw [hc5]; decide) (by rw [hc5]; rfl) (by decide) ?_
    clear hc5
    refine lv_bipush (v := (-9)) X.hx X.hb dX2_kindOf_100 (by decide) ?_
    exact r_ri X h hr hlk (Nat.le_of_ble_eq_true rfl) (Nat.le_of_ble_eq_true rfl) dX2_kindOf_102 hf
  replace hf := gif_f hf hc5
  by_cases hc6 : a1 = 104
  · replace hf := gif_t hf hc6
    refine lv_tableIn (tgt := 100) X.hx X.hb dX2_kindOf_1 (by rw [hc6]; decide) (by rw [hc6]; decide) (by rw [hc6]; rfl) (by decide) ?_
    clear hc6
    refine lv_bipush (v := (-9)) X.hx X.hb dX2_kindOf_100 (by decide) ?_
    exact r_ri X h hr hlk (Nat.le_of_ble_eq_true rfl) (Nat.le_of_ble_eq_true rfl) dX2_kindOf_102 hf
  replace hf := gif_f hf hc6
  by_cases hc7 : a1 = 105
  · replace hf := gif_t hf hc7
    refine lv_tableIn (tgt := 100) X.hx X.hb dX2_kindOf_1 (by rw [hc7]; decide) (by rw [hc7]; decide) (by rw [hc7]; rfl) (by decide) ?_
    clear hc7
    refine lv_bipush (v := (-9)) X.hx X.hb dX2_kindOf_100 (by decide) ?_
    exact r_ri X h hr hlk (Nat.le_of_ble_eq_true rfl) (Nat.le_of_ble_eq_true rfl) dX2_kindOf_102 hf
  replace hf := gif_f hf hc7
  by_cases hc8 : a1 = 106
  · replace hf := gif_t hf hc8
    refine lv_tableIn (tgt := 100) X.hx X.hb dX2_kindOf_1 (by rw [hc8]; decide) (by rw [hc8]; decide) (by rw [hc8]; rfl) (by decide) ?_
    clear hc8
    refine lv_bipush (v := (-9)) X.hx X.hb dX2_kindOf_100 (by decide) ?_
    exact r_ri X h hr hlk (Nat.le_of_ble_eq_true rfl) (Nat.le_of_ble_eq_true rfl) dX2_kindOf_102 hf
  replace hf := gif_f hf hc8
  by_cases hc9 : a1 = 107
  · replace hf := gif_t hf hc9
    refine lv_tableIn (tgt := 88) X.hx X.hb dX2_kindOf_1 (by rw [hc9]; decide) (by rw [hc9]; decide) (by rw [hc9]; rfl) (by decide) ?_
    clear hc9
    refine lv_iconst (v := 0) X.hx X.hb dX2_kindOf_88 (by decide) ?_
    exact r_ri X h hr hlk (Nat.le_of_ble_eq_true rfl) (Nat.le_of_ble_eq_true rfl) dX2_kindOf_89 hf
  replace hf := gif_f hf hc9
  by_cases hc10 : a1 = 108
  · replace hf := gif_t hf hc10
    refine lv_tableIn (tgt := 100) X.hx X.hb dX2_kindOf_1 (by rw [hc10]; decide) (by rw [hc10]; decide) (by rw [hc10]; rfl) (by decide) ?_
    clear hc10
    refine lv_bipush (v := (-9)) X.hx X.hb dX2_kindOf_100 (by decide) ?_
    exact r_ri X h hr hlk (Nat.le_of_ble_eq_true rfl) (Nat.le_of_ble_eq_true rfl) dX2_kindOf_102 hf
  replace hf := gif_f hf hc10
  by_cases hc11 : a1 = 109
  · replace hf := gif_t hf hc11
    refine lv_tableIn (tgt := 100) X.hx X.hb dX2_kindOf_1 (by rw [hc11]; decide) (by rw [hc11]; decide) (by rw [hc11]; rfl) (by decide) ?_
    clear hc11
    refine lv_bipush (v := (-9)) X.hx X.hb dX2_kindOf_100 (by decide) ?_
    exact r_ri X h hr hlk (Nat.le_of_ble_eq_true rfl) (Nat.le_of_ble_eq_true rfl) dX2_kindOf_102 hf
  replace hf := gif_f hf hc11
  by_cases hc12 : a1 = 110
  · replace hf := gif_t hf hc12
    refine lv_tableIn (tgt := 100) X.hx X.hb dX2_kindOf_1 (by rw [hc12]; decide) (by rw [hc12]; decide) (by rw [hc12]; rfl) (by decide) ?_
    clear hc12
    refine lv_bipush (v := (-9)) X.hx X.hb dX2_kindOf_100 (by decide) ?_
    exact r_ri X h hr hlk (Nat.le_of_ble_eq_true rfl) (Nat.le_of_ble_eq_true rfl) dX2_kindOf_102 hf
  replace hf := gif_f hf hc12
  by_cases hc13 : a1 = 111
  · replace hf := gif_t hf hc13
    refine lv_tableIn (tgt := 100) X.hx X.hb dX2_kindOf_1 (by rw [hc13]; decide) (by rw [hc13]; decide) (by rw [hc13]; rfl) (by decide) ?_
    clear hc13
    refine lv_bipush (v := (-9)) X.hx X.hb dX2_kindOf_100 (by decide) ?_
    exact r_ri X h hr hlk (Nat.le_of_ble_eq_true rfl) (Nat.le_of_ble_eq_true rfl) dX2_kindOf_102 hf
  replace hf := gif_f hf hc13
  by_cases hc14 : a1 = 112
  · replace hf := gif_t hf hc14
    refine lv_tableIn (tgt := 100) X.hx X.hb dX2_kindOf_1 (by rw [hc14]; decide) (by rw [hc14]; decide) (by rw [hc14]; rfl) (by decide) ?_
    clear hc14
    refine lv_bipush (v := (-9)) X.hx X.hb dX2_kindOf_100 (by decide) ?_
    exact r_ri X h hr hlk (Nat.le_of_ble_eq_true rfl) (Nat.le_of_ble_eq_true rfl) dX2_kindOf_102 hf
  replace hf := gif_f hf hc14
  by_cases hc15 : a1 = 113
  · replace hf := gif_t hf hc15
    refine lv_tableIn (tgt := 100) X.hx X.hb dX2_kindOf_1 (by rw [hc15]; decide) (by rw [hc15]; decide) (by rw [hc15]; rfl) (by decide) ?_
    clear hc15
    refine lv_bipush (v := (-9)) X.hx X.hb dX2_kindOf_100 (by decide) ?_
    exact r_ri X h hr hlk (Nat.le_of_ble_eq_true rfl) (Nat.le_of_ble_eq_true rfl) dX2_kindOf_102 hf
  replace hf := gif_f hf hc15
  by_cases hc16 : a1 = 114
  · replace hf := gif_t hf hc16
    refine lv_tableIn (tgt := 98) X.hx X.hb dX2_kindOf_1 (by rw [hc16]; decide) (by rw [hc16]; decide) (by rw [hc16]; rfl) (by decide) ?_
    clear hc16
    refine lv_iconst (v := 5) X.hx X.hb dX2_kindOf_98 (by decide) ?_
    exact r_ri X h hr hlk (Nat.le_of_ble_eq_true rfl) (Nat.le_of_ble_eq_true rfl) dX2_kindOf_99 hf
  replace hf := gif_f hf hc16
  by_cases hc17 : a1 = 115
  · replace hf := gif_t hf hc17
    refine lv_tableIn (tgt := 92) X.hx X.hb dX2_kindOf_1 (by rw [hc17]; decide) (by rw [hc17]; decide) (by rw [hc17]; rfl) (by decide) ?_
    clear hc17
    refine lv_iconst (v := 2) X.hx X.hb dX2_kindOf_92 (by decide) ?_
    exact r_ri X h hr hlk (Nat.le_of_ble_eq_true rfl) (Nat.le_of_ble_eq_true rfl) dX2_kindOf_93 hf
  replace hf := gif_f hf hc17
  have hn0 : (a1 : Int32).toInt ≠ 98 := fun h9 => hc0 (Int32.toInt_inj.mp (h9.trans (by decide)))
  have hn1 : (a1 : Int32).toInt ≠ 99 := fun h9 => hc1 (Int32.toInt_inj.mp (h9.trans (by decide)))
  have hn2 : (a1 : Int32).toInt ≠ 100 := fun h9 => hc2 (Int32.toInt_inj.mp (h9.trans (by decide)))
  have hn3 : (a1 : Int32).toInt ≠ 101 := fun h9 => hc3 (Int32.toInt_inj.mp (h9.trans (by decide)))
  have hn4 : (a1 : Int32).toInt ≠ 102 := fun h9 => hc4 (Int32.toInt_inj.mp (h9.trans (by decide)))
  have hn5 : (a1 : Int32).toInt ≠ 103 := fun h9 => hc5 (Int32.toInt_inj.mp (h9.trans (by decide)))
  have hn6 : (a1 : Int32).toInt ≠ 104 := fun h9 => hc6 (Int32.toInt_inj.mp (h9.trans (by decide)))
  have hn7 : (a1 : Int32).toInt ≠ 105 := fun h9 => hc7 (Int32.toInt_inj.mp (h9.trans (by decide)))
  have hn8 : (a1 : Int32).toInt ≠ 106 := fun h9 => hc8 (Int32.toInt_inj.mp (h9.trans (by decide)))
  have hn9 : (a1 : Int32).toInt ≠ 107 := fun h9 => hc9 (Int32.toInt_inj.mp (h9.trans (by decide)))
  have hn10 : (a1 : Int32).toInt ≠ 108 := fun h9 => hc10 (Int32.toInt_inj.mp (h9.trans (by decide)))
  have hn11 : (a1 : Int32).toInt ≠ 109 := fun h9 => hc11 (Int32.toInt_inj.mp (h9.trans (by decide)))
  have hn12 : (a1 : Int32).toInt ≠ 110 := fun h9 => hc12 (Int32.toInt_inj.mp (h9.trans (by decide)))
  have hn13 : (a1 : Int32).toInt ≠ 111 := fun h9 => hc13 (Int32.toInt_inj.mp (h9.trans (by decide)))
  have hn14 : (a1 : Int32).toInt ≠ 112 := fun h9 => hc14 (Int32.toInt_inj.mp (h9.trans (by decide)))
  have hn15 : (a1 : Int32).toInt ≠ 113 := fun h9 => hc15 (Int32.toInt_inj.mp (h9.trans (by decide)))
  have hn16 : (a1 : Int32).toInt ≠ 114 := fun h9 => hc16 (Int32.toInt_inj.mp (h9.trans (by decide)))
  have hn17 : (a1 : Int32).toInt ≠ 115 := fun h9 => hc17 (Int32.toInt_inj.mp (h9.trans (by decide)))
  refine lv_tableOut (tgt := 100) X.hx X.hb dX2_kindOf_1 (by omega) (by decide) ?_
  clear hn0 hn1 hn2 hn3 hn4 hn5 hn6 hn7 hn8 hn9 hn10 hn11 hn12 hn13 hn14 hn15 hn16 hn17 hc0 hc1 hc2 hc3 hc4 hc5 hc6 hc7 hc8 hc9 hc10 hc11 hc12 hc13 hc14 hc15 hc16 hc17
  refine lv_bipush (v := (-9)) X.hx X.hb dX2_kindOf_100 (by decide) ?_
  exact r_ri X h hr hlk (Nat.le_of_ble_eq_true rfl) (Nat.le_of_ble_eq_true rfl) dX2_kindOf_102 hf
/-! X2_readsKey -/
def fX2_readsKey_L66 (b0 : Nat) (a1 : Int32) (x10 : Int32) (kx154 : gM → gR) : Nat → Int32 → gM → gR
  | 0, _, _ => none
  | n17 + 1, x15, μ16 => if 4 ≤ x15 then (kx154 μ16) else (gis μ16 b0 2 <| cI (fX2_figure μ16 b0 a1 0) fun x18 μ19 => if x18 = 0 then (rZ 0 μ19) else (gjn (fun  (μ20 : gM) => gnm (x15 + 1) fun x22 => fX2_readsKey_L66 b0 a1 x10 kx154 n17 x22 μ20) fun j21 => if x15 = 0 then (gP (gfld μ19 b0 2 19) fun i31 => gI (gfld μ19 b0 2 16) fun x32 => gsI μ19 0 i31 (x10 + 1) x32 fun μ33 => j21 μ33) else (if x15 = 3 then (gP (gfld μ19 b0 2 19) fun i28 => gI (gfld μ19 b0 2 16) fun x29 => gsI μ19 0 i28 (x10 + 3) x29 fun μ30 => j21 μ30) else (gP (gfld μ19 b0 2 19) fun i23 => gP (gfld μ19 b0 2 19) fun i24 => gaI μ19 0 i24 (x10 + 2) fun x25 => gI (gfld μ19 b0 2 16) fun x26 => gsI μ19 0 i23 (x10 + 2) ((10 * x25) + x26) fun μ27 => j21 μ27))))
set_option maxHeartbeats 4000000 in
theorem wX2_readsKey_L66 {p : Program} {e : Env} {s : State} {m : MethodId} {args : Array Value} {below : List Frame} {meth : Method} {c : Code} {Γ : gG} {A : Nat → Prop} {nz : Nat} {ad : Nat → Nat} {r : Option Value × gM} (l : Launch) (b0 : Nat) (a1 : Int32) (x10 : Int32) (kx154 : gM → gR) (X : gX p m c cX2_readsKey 5 s args "SandPianoModel" Γ A) (hr : meth.sig.returnType = (some .boolean)) (hlk : meth.locks = false) (hk154 : ∀  (μ : gM) (H : Heap) (locs : List Loc) (ls : Array Slot), kx154  μ = some r → gWd Γ A nz ad μ s.heap H locs → lv_has ls 5 [(0, .ref (ad b0))] → W p l e ({ frames := 2, cells := 0, slots := 0, locals := 45 } : Room) s m args below meth c H locs 0 0 (MQ below (gQ0 Γ ad nz r A) args s 0 0 A) (F0 m 154 ls [])) : ∀ (n17 : Nat) (x15 : Int32) (μ16 : gM) (H : Heap) (locs : List Loc) (ls : Array Slot), fX2_readsKey_L66 b0 a1 x10 kx154 n17 x15 μ16 = some r → gWd Γ A nz ad μ16 s.heap H locs → lv_has ls 5 [(0, .ref (ad b0)), (1, .int a1), (3, .int x10), (4, .int x15)] → W p l e ({ frames := 2, cells := 0, slots := 0, locals := 45 } : Room) s m args below meth c H locs 0 0 (MQ below (gQ0 Γ ad nz r A) args s 0 0 A) (F0 m 66 ls []) := by
  intro n17
  induction n17 with
  | zero =>
    intro x15 μ16 H locs ls hf h hl
    have hf : (none : gR) = some r := hf
    cases hf
  | succ n17 ih =>
    intro x15 μ16 H locs ls hf h hl
    rw [fX2_readsKey_L66] at hf
    refine lv_iload X.hx X.hb dX2_readsKey_66 (lv_at hl 3 rfl) ?_
    refine lv_iconst (v := 4) X.hx X.hb dX2_readsKey_68 (by decide) ?_
    refine lv_icmp_ge (tgt := 154) X.hx X.hb dX2_readsKey_69 (by decide) (fun hc => ?_) (fun hc => ?_)
    · replace hf := gif_t hf hc
      clear hc
      exact hk154 _ _ _ _ hf h (lv_sub hl [0] rfl)
    · replace hf := gif_f hf hc
      clear hc
      refine lv_aload_n X.hx X.hb dX2_readsKey_72 rfl (lv_at hl 0 rfl) ?_
      refine lv_iload_n X.hx X.hb dX2_readsKey_73 rfl (lv_at hl 1 rfl) ?_
      refine lv_iconst (v := 0) X.hx X.hb dX2_readsKey_74 (by decide) ?_
      refine r_cVI (As := [.int a1, .int 0]) (rest := []) (C := RX2) (T := TX2) (N := 36) X h hf (fun res hres => wX2_figure l Γ ad _ b0 a1 0 res hres) rfl (cwV 2 X.hts (lw_V q1258 q1260 qs44 q84 q1261) rfl rfl rfl (by decide +kernel) ⟨Nat.le_of_ble_eq_true rfl, Nat.le_of_ble_eq_true rfl⟩) rfl ⟨hl.1, Nat.le_of_ble_eq_true rfl, Nat.le_of_ble_eq_true rfl, Nat.le_of_ble_eq_true rfl⟩ rfl dX2_readsKey_75 (fun x18 μ19 H locs hf h => ?_)
      refine lv_if_ne (tgt := 83) X.hx X.hb dX2_readsKey_78 (by decide) (fun hc => ?_) (fun hc => ?_)
      · replace hf := gif_f hf hc
        clear hc
        refine lv_iload X.hx X.hb dX2_readsKey_83 (lv_at hl 3 rfl) ?_
        refine r_jn hf (fun j21 ej21 hf => ?_)
        have hj21 : ∀  (μ20 : gM) (H : Heap) (locs : List Loc) (ls : Array Slot), j21  μ20 = some r → gWd Γ A nz ad μ20 s.heap H locs → lv_has ls 5 [(0, .ref (ad b0)), (1, .int a1), (3, .int x10), (4, .int x15)] → W p l e ({ frames := 2, cells := 0, slots := 0, locals := 45 } : Room) s m args below meth c H locs 0 0 (MQ below (gQ0 Γ ad nz r A) args s 0 0 A) (F0 m 148 ls []) := by
          intro μ20 H locs ls hf h hl
          rw [ej21] at hf
          refine r_nmk hf (fun x22 ex hf => ?_)
          refine lv_iinc (v := x22) (lv' := [(4, .int x22), (0, .ref (ad b0)), (1, .int a1), (3, .int x10)]) X.hx X.hb dX2_readsKey_148 hl (k := 3) rfl (by rw [ex]; rfl) (by decide) rfl (fun ls hl => ?_)
          clear ex
          refine lv_goto (tgt := 66) X.hx X.hb dX2_readsKey_151 (by decide) ?_
          exact ih _ _ _ _ _ hf h (lv_sub hl [1, 2, 3, 0] rfl)
        clear ej21
        refine lv_if_ne (tgt := 103) X.hx X.hb dX2_readsKey_85 (by decide) (fun hc => ?_) (fun hc => ?_)
        · replace hf := gif_f hf hc
          clear hc
          refine lv_iload X.hx X.hb dX2_readsKey_103 (lv_at hl 3 rfl) ?_
          refine lv_iconst (v := 3) X.hx X.hb dX2_readsKey_105 (by decide) ?_
          refine lv_icmp_ne (tgt := 124) X.hx X.hb dX2_readsKey_106 (by decide) (fun hc => ?_) (fun hc => ?_)
          · replace hf := gif_f hf hc
            clear hc
            refine lv_aload_n X.hx X.hb dX2_readsKey_124 rfl (lv_at hl 0 rfl) ?_
            refine r_getP X h (ci := 2) (k := 19) (C := RX2) (T := TX2) (N := 36) rfl in_X2 (by decide) q1078 rfl dX2_readsKey_125 hf (fun i23 hf => ?_)
            refine lv_iload_n X.hx X.hb dX2_readsKey_128 rfl (lv_at hl 2 rfl) ?_
            refine lv_iconst (v := 2) X.hx X.hb dX2_readsKey_129 (by decide) ?_
            refine lv_iadd X.hx X.hb dX2_readsKey_130 ?_
            refine lv_bipush (v := 10) X.hx X.hb dX2_readsKey_131 (by decide) ?_
            refine lv_aload_n X.hx X.hb dX2_readsKey_133 rfl (lv_at hl 0 rfl) ?_
            refine r_getP X h (ci := 2) (k := 19) (C := RX2) (T := TX2) (N := 36) rfl in_X2 (by decide) q1078 rfl dX2_readsKey_134 hf (fun i24 hf => ?_)
            refine lv_iload_n X.hx X.hb dX2_readsKey_137 rfl (lv_at hl 2 rfl) ?_
            refine lv_iconst (v := 2) X.hx X.hb dX2_readsKey_138 (by decide) ?_
            refine lv_iadd X.hx X.hb dX2_readsKey_139 ?_
            refine r_iald X h dX2_readsKey_140 hf (fun x25 hf => ?_)
            refine lv_imul X.hx X.hb dX2_readsKey_141 ?_
            refine lv_aload_n X.hx X.hb dX2_readsKey_142 rfl (lv_at hl 0 rfl) ?_
            refine r_getI X h (ci := 2) (k := 16) (C := RX2) (T := TX2) (N := 36) rfl in_X2 (by decide) q1075 rfl dX2_readsKey_143 hf (fun x26 hf => ?_)
            refine lv_iadd X.hx X.hb dX2_readsKey_146 ?_
            refine r_iast X h dX2_readsKey_147 hf (fun μ27 H locs hf h => ?_)
            exact hj21 _ _ _ _ hf h (lv_sub hl [0, 1, 2, 3] rfl)
          · replace hf := gif_t hf hc
            clear hc
            refine lv_aload_n X.hx X.hb dX2_readsKey_109 rfl (lv_at hl 0 rfl) ?_
            refine r_getP X h (ci := 2) (k := 19) (C := RX2) (T := TX2) (N := 36) rfl in_X2 (by decide) q1078 rfl dX2_readsKey_110 hf (fun i28 hf => ?_)
            refine lv_iload_n X.hx X.hb dX2_readsKey_113 rfl (lv_at hl 2 rfl) ?_
            refine lv_iconst (v := 3) X.hx X.hb dX2_readsKey_114 (by decide) ?_
            refine lv_iadd X.hx X.hb dX2_readsKey_115 ?_
            refine lv_aload_n X.hx X.hb dX2_readsKey_116 rfl (lv_at hl 0 rfl) ?_
            refine r_getI X h (ci := 2) (k := 16) (C := RX2) (T := TX2) (N := 36) rfl in_X2 (by decide) q1075 rfl dX2_readsKey_117 hf (fun x29 hf => ?_)
            refine r_iast X h dX2_readsKey_120 hf (fun μ30 H locs hf h => ?_)
            refine lv_goto (tgt := 148) X.hx X.hb dX2_readsKey_121 (by decide) ?_
            exact hj21 _ _ _ _ hf h (lv_sub hl [0, 1, 2, 3] rfl)
        · replace hf := gif_t hf hc
          clear hc
          refine lv_aload_n X.hx X.hb dX2_readsKey_88 rfl (lv_at hl 0 rfl) ?_
          refine r_getP X h (ci := 2) (k := 19) (C := RX2) (T := TX2) (N := 36) rfl in_X2 (by decide) q1078 rfl dX2_readsKey_89 hf (fun i31 hf => ?_)
          refine lv_iload_n X.hx X.hb dX2_readsKey_92 rfl (lv_at hl 2 rfl) ?_
          refine lv_iconst (v := 1) X.hx X.hb dX2_readsKey_93 (by decide) ?_
          refine lv_iadd X.hx X.hb dX2_readsKey_94 ?_
          refine lv_aload_n X.hx X.hb dX2_readsKey_95 rfl (lv_at hl 0 rfl) ?_
          refine r_getI X h (ci := 2) (k := 16) (C := RX2) (T := TX2) (N := 36) rfl in_X2 (by decide) q1075 rfl dX2_readsKey_96 hf (fun x32 hf => ?_)
          refine r_iast X h dX2_readsKey_99 hf (fun μ33 H locs hf h => ?_)
          refine lv_goto (tgt := 148) X.hx X.hb dX2_readsKey_100 (by decide) ?_
          exact hj21 _ _ _ _ hf h (lv_sub hl [0, 1, 2, 3] rfl)
      · replace hf := gif_t hf hc
        clear hc
        refine lv_iconst (v := 0) X.hx X.hb dX2_readsKey_81 (by decide) ?_
        exact r_rz X h hr hlk (Nat.le_of_ble_eq_true rfl) (Nat.le_of_ble_eq_true rfl) dX2_readsKey_82 hf
def fX2_readsKey (μ0 : gM) (b0 : Nat) (a1 : Int32) : gR := gI (gfld μ0 b0 2 15) fun x1 => gis μ0 b0 2 <| cI (fX2_byteAt μ0 b0 a1 x1) fun x2 μ3 => cI (fX2_kindOf μ3 x2) fun x4 μ5 => if x4 = (-9) then (rZ 0 μ5) else (gI (gfld μ5 b0 2 18) fun x6 => if x6 = 6 then (rZ 0 μ5) else (gI (gfld μ5 b0 2 15) fun x7 => gpf μ5 b0 2 15 (.int (x7 + 1)) fun μ8 => gI (gfld μ8 b0 2 18) fun x9 => gnm ((4 * x9)) fun x10 => gP (gfld μ8 b0 2 19) fun i11 => gsI μ8 0 i11 x10 x4 fun μ12 => gP (gfld μ12 b0 2 19) fun i13 => gsI μ12 0 i13 (x10 + 2) 0 fun μ14 => fX2_readsKey_L66 b0 a1 x10 (fun (μ34 : gM) => gI (gfld μ34 b0 2 18) fun x35 => gpf μ34 b0 2 18 (.int (x35 + 1)) fun μ36 => rZ 1 μ36) 10000 0 μ14))
set_option maxHeartbeats 4000000 in
theorem wX2_readsKey (l : Launch) (Γ : gG) (ad : Nat → Nat) (μ0 : gM) (b0 : Nat) (a1 : Int32) (r : Option Value × gM) (hf : fX2_readsKey μ0 b0 a1 = some r) : gMt0 l Γ yX2_readsKey (ws_ yX2_readsKey cX2_readsKey 5 (some .boolean)) ({ frames := 2, cells := 0, slots := 0, locals := 45 } : Room) 0 0 ad μ0 [.ref (ad b0), .int a1] r := by
  intro sz
  refine g_start (maxL := 5) (ret := (some .boolean)) (by decide) rfl g_all (Nat.le_of_ble_eq_true rfl) ?_
  intro p e s m below meth c ls hr hlk hnm X h hl
  generalize gA ad μ0 sz = A at X h ⊢
  generalize ([.ref (ad b0), .int a1] : List Value).toArray = args at X ⊢
  have X : gX p m c cX2_readsKey 5 s args "SandPianoModel" Γ A := X
  have hl : lv_has ls 5 [(0, .ref (ad b0)), (1, .int a1)] := hl
  show W p l e ({ frames := 2, cells := 0, slots := 0, locals := 45 } : Room) s m args below meth c s.heap [] 0 0 (MQ below (gQ0 Γ ad μ0.1 r A) args s 0 0 A) (F0 m 0 ls [])
  unfold fX2_readsKey at hf
  refine lv_aload_n X.hx X.hb dX2_readsKey_0 rfl (lv_at hl 0 rfl) ?_
  refine lv_iload_n X.hx X.hb dX2_readsKey_1 rfl (lv_at hl 1 rfl) ?_
  refine lv_aload_n X.hx X.hb dX2_readsKey_2 rfl (lv_at hl 0 rfl) ?_
  refine r_getI X h (ci := 2) (k := 15) (C := RX2) (T := TX2) (N := 36) rfl in_X2 (by decide) q1074 rfl dX2_readsKey_3 hf (fun x1 hf => ?_)
  refine r_cVI (As := [.int a1, .int x1]) (rest := []) (C := RX2) (T := TX2) (N := 36) X h hf (fun res hres => wX2_byteAt l Γ ad _ b0 a1 x1 res hres) rfl (cwV 2 X.hts (lw_V q1250 q1252 qs42 q84 q1253) rfl rfl rfl (by decide +kernel) ⟨Nat.le_of_ble_eq_true rfl, Nat.le_of_ble_eq_true rfl⟩) rfl ⟨hl.1, Nat.le_of_ble_eq_true rfl, Nat.le_of_ble_eq_true rfl, Nat.le_of_ble_eq_true rfl⟩ rfl dX2_readsKey_6 (fun x2 μ3 H locs hf h => ?_)
  refine r_cSI (As := [.int x2]) (rest := []) X h hf (fun res hres => wX2_kindOf l Γ ad _ x2 res hres) (va_cwS 1 X.hts (lw_S q1266 q1267 q84 q1268) rfl rfl rfl (by decide +kernel) ⟨Nat.le_of_ble_eq_true rfl, Nat.le_of_ble_eq_true rfl⟩) rfl ⟨hl.1, Nat.le_of_ble_eq_true rfl, Nat.le_of_ble_eq_true rfl, Nat.le_of_ble_eq_true rfl⟩ rfl dX2_readsKey_9 (fun x4 μ5 H locs hf h => ?_)
  refine lv_istore_n (lv' := [(2, .int x4), (0, .ref (ad b0)), (1, .int a1)]) X.hx X.hb dX2_readsKey_12 rfl hl (by decide) rfl (fun ls hl => ?_)
  refine lv_iload_n X.hx X.hb dX2_readsKey_13 rfl (lv_at hl 0 rfl) ?_
  refine lv_bipush (v := (-9)) X.hx X.hb dX2_readsKey_14 (by decide) ?_
  refine lv_icmp_eq (tgt := 28) X.hx X.hb dX2_readsKey_16 (by decide) (fun hc => ?_) (fun hc => ?_)
  · replace hf := gif_t hf hc
    clear hc
    refine lv_iconst (v := 0) X.hx X.hb dX2_readsKey_28 (by decide) ?_
    exact r_rz X h hr hlk (Nat.le_of_ble_eq_true rfl) (Nat.le_of_ble_eq_true rfl) dX2_readsKey_29 hf
  · replace hf := gif_f hf hc
    clear hc
    refine lv_aload_n X.hx X.hb dX2_readsKey_19 rfl (lv_at hl 1 rfl) ?_
    refine r_getI X h (ci := 2) (k := 18) (C := RX2) (T := TX2) (N := 36) rfl in_X2 (by decide) q1077 rfl dX2_readsKey_20 hf (fun x6 hf => ?_)
    refine lv_bipush (v := 6) X.hx X.hb dX2_readsKey_23 (by decide) ?_
    refine lv_icmp_ne (tgt := 30) X.hx X.hb dX2_readsKey_25 (by decide) (fun hc => ?_) (fun hc => ?_)
    · replace hf := gif_f hf hc
      clear hc
      refine lv_aload_n X.hx X.hb dX2_readsKey_30 rfl (lv_at hl 1 rfl) ?_
      refine lv_dup X.hx X.hb dX2_readsKey_31 rfl ?_
      refine r_getI X h (ci := 2) (k := 15) (C := RX2) (T := TX2) (N := 36) rfl in_X2 (by decide) q1074 rfl dX2_readsKey_32 hf (fun x7 hf => ?_)
      refine lv_iconst (v := 1) X.hx X.hb dX2_readsKey_35 (by decide) ?_
      refine lv_iadd X.hx X.hb dX2_readsKey_36 ?_
      refine r_put X h (ci := 2) (k := 15) (C := RX2) (T := TX2) (N := 36) (ty0 := tyX2) (ty := .int) (v := .int (x7 + 1)) rfl in_X2 tyX2_ok nmX2 (by decide) q1074 rfl rfl (by decide +kernel) rfl rfl (fun j hj => by cases hj) dX2_readsKey_37 hf (fun μ8 H locs hf h => ?_)
      refine lv_iconst (v := 4) X.hx X.hb dX2_readsKey_40 (by decide) ?_
      refine lv_aload_n X.hx X.hb dX2_readsKey_41 rfl (lv_at hl 1 rfl) ?_
      refine r_getI X h (ci := 2) (k := 18) (C := RX2) (T := TX2) (N := 36) rfl in_X2 (by decide) q1077 rfl dX2_readsKey_42 hf (fun x9 hf => ?_)
      refine lv_imul X.hx X.hb dX2_readsKey_45 ?_
      refine r_nmI hf (fun x10 hf => ?_)
      refine lv_istore_n (lv' := [(3, .int x10), (2, .int x4), (0, .ref (ad b0)), (1, .int a1)]) X.hx X.hb dX2_readsKey_46 rfl hl (by decide) rfl (fun ls hl => ?_)
      refine lv_aload_n X.hx X.hb dX2_readsKey_47 rfl (lv_at hl 2 rfl) ?_
      refine r_getP X h (ci := 2) (k := 19) (C := RX2) (T := TX2) (N := 36) rfl in_X2 (by decide) q1078 rfl dX2_readsKey_48 hf (fun i11 hf => ?_)
      refine lv_iload_n X.hx X.hb dX2_readsKey_51 rfl (lv_at hl 0 rfl) ?_
      refine lv_iload_n X.hx X.hb dX2_readsKey_52 rfl (lv_at hl 1 rfl) ?_
      refine r_iast X h dX2_readsKey_53 hf (fun μ12 H locs hf h => ?_)
      refine lv_aload_n X.hx X.hb dX2_readsKey_54 rfl (lv_at hl 2 rfl) ?_
      refine r_getP X h (ci := 2) (k := 19) (C := RX2) (T := TX2) (N := 36) rfl in_X2 (by decide) q1078 rfl dX2_readsKey_55 hf (fun i13 hf => ?_)
      refine lv_iload_n X.hx X.hb dX2_readsKey_58 rfl (lv_at hl 0 rfl) ?_
      refine lv_iconst (v := 2) X.hx X.hb dX2_readsKey_59 (by decide) ?_
      refine lv_iadd X.hx X.hb dX2_readsKey_60 ?_
      refine lv_iconst (v := 0) X.hx X.hb dX2_readsKey_61 (by decide) ?_
      refine r_iast X h dX2_readsKey_62 hf (fun μ14 H locs hf h => ?_)
      refine lv_iconst (v := 0) X.hx X.hb dX2_readsKey_63 (by decide) ?_
      refine lv_istore (lv' := [(4, .int 0), (3, .int x10), (2, .int x4), (0, .ref (ad b0)), (1, .int a1)]) X.hx X.hb dX2_readsKey_64 hl (by decide) rfl (fun ls hl => ?_)
      refine wX2_readsKey_L66 l b0 a1 x10 _ X hr hlk (fun μ34 H locs ls hf h hl => ?_) 10000 _ _ _ _ _ hf h (lv_sub hl [3, 4, 1, 0] rfl)
      refine lv_aload_n X.hx X.hb dX2_readsKey_154 rfl (lv_at hl 0 rfl) ?_
      refine lv_dup X.hx X.hb dX2_readsKey_155 rfl ?_
      refine r_getI X h (ci := 2) (k := 18) (C := RX2) (T := TX2) (N := 36) rfl in_X2 (by decide) q1077 rfl dX2_readsKey_156 hf (fun x35 hf => ?_)
      refine lv_iconst (v := 1) X.hx X.hb dX2_readsKey_159 (by decide) ?_
      refine lv_iadd X.hx X.hb dX2_readsKey_160 ?_
      refine r_put X h (ci := 2) (k := 18) (C := RX2) (T := TX2) (N := 36) (ty0 := tyX2) (ty := .int) (v := .int (x35 + 1)) rfl in_X2 tyX2_ok nmX2 (by decide) q1077 rfl rfl (by decide +kernel) rfl rfl (fun j hj => by cases hj) dX2_readsKey_161 hf (fun μ36 H locs hf h => ?_)
      refine lv_iconst (v := 1) X.hx X.hb dX2_readsKey_164 (by decide) ?_
      exact r_rz X h hr hlk (Nat.le_of_ble_eq_true rfl) (Nat.le_of_ble_eq_true rfl) dX2_readsKey_165 hf
    · replace hf := gif_t hf hc
      clear hc
      refine lv_iconst (v := 0) X.hx X.hb dX2_readsKey_28 (by decide) ?_
      exact r_rz X h hr hlk (Nat.le_of_ble_eq_true rfl) (Nat.le_of_ble_eq_true rfl) dX2_readsKey_29 hf
/-! X2_readsSpade -/
def fX2_readsSpade (μ0 : gM) (b0 : Nat) (a1 : Int32) : gR := gI (gfld μ0 b0 2 15) fun x1 => gis μ0 b0 2 <| cI (fX2_byteAt μ0 b0 a1 x1) fun x2 μ3 => if x2 = 112 then (gI (gfld μ3 b0 2 15) fun x4 => gpf μ3 b0 2 15 (.int (x4 + 1)) fun μ5 => gis μ5 b0 2 <| cI (fX2_figure μ5 b0 a1 1) fun x6 μ7 => gjn (fun (x8 : Int32) (μ9 : gM) => gpf μ9 b0 2 17 (.int x8) fun μ11 => rZ x6 μ11) fun j10 => if x6 = 0 then (j10 0 μ7) else (gI (gfld μ7 b0 2 16) fun x12 => j10 x12 μ7)) else (rZ 0 μ3)
set_option maxHeartbeats 4000000 in
theorem wX2_readsSpade (l : Launch) (Γ : gG) (ad : Nat → Nat) (μ0 : gM) (b0 : Nat) (a1 : Int32) (r : Option Value × gM) (hf : fX2_readsSpade μ0 b0 a1 = some r) : gMt0 l Γ yX2_readsSpade (ws_ yX2_readsSpade cX2_readsSpade 3 (some .boolean)) ({ frames := 2, cells := 0, slots := 0, locals := 45 } : Room) 0 0 ad μ0 [.ref (ad b0), .int a1] r := by
  intro sz
  refine g_start (maxL := 3) (ret := (some .boolean)) (by decide) rfl g_all (Nat.le_of_ble_eq_true rfl) ?_
  intro p e s m below meth c ls hr hlk hnm X h hl
  generalize gA ad μ0 sz = A at X h ⊢
  generalize ([.ref (ad b0), .int a1] : List Value).toArray = args at X ⊢
  have X : gX p m c cX2_readsSpade 3 s args "SandPianoModel" Γ A := X
  have hl : lv_has ls 3 [(0, .ref (ad b0)), (1, .int a1)] := hl
  show W p l e ({ frames := 2, cells := 0, slots := 0, locals := 45 } : Room) s m args below meth c s.heap [] 0 0 (MQ below (gQ0 Γ ad μ0.1 r A) args s 0 0 A) (F0 m 0 ls [])
  unfold fX2_readsSpade at hf
  refine lv_aload_n X.hx X.hb dX2_readsSpade_0 rfl (lv_at hl 0 rfl) ?_
  refine lv_iload_n X.hx X.hb dX2_readsSpade_1 rfl (lv_at hl 1 rfl) ?_
  refine lv_aload_n X.hx X.hb dX2_readsSpade_2 rfl (lv_at hl 0 rfl) ?_
  refine r_getI X h (ci := 2) (k := 15) (C := RX2) (T := TX2) (N := 36) rfl in_X2 (by decide) q1074 rfl dX2_readsSpade_3 hf (fun x1 hf => ?_)
  refine r_cVI (As := [.int a1, .int x1]) (rest := []) (C := RX2) (T := TX2) (N := 36) X h hf (fun res hres => wX2_byteAt l Γ ad _ b0 a1 x1 res hres) rfl (cwV 2 X.hts (lw_V q1250 q1252 qs42 q84 q1253) rfl rfl rfl (by decide +kernel) ⟨Nat.le_of_ble_eq_true rfl, Nat.le_of_ble_eq_true rfl⟩) rfl ⟨hl.1, Nat.le_of_ble_eq_true rfl, Nat.le_of_ble_eq_true rfl, Nat.le_of_ble_eq_true rfl⟩ rfl dX2_readsSpade_6 (fun x2 μ3 H locs hf h => ?_)
  refine lv_bipush (v := 112) X.hx X.hb dX2_readsSpade_9 (by decide) ?_
  refine lv_icmp_eq (tgt := 16) X.hx X.hb dX2_readsSpade_11 (by decide) (fun hc => ?_) (fun hc => ?_)
  · replace hf := gif_t hf hc
    clear hc
    refine lv_aload_n X.hx X.hb dX2_readsSpade_16 rfl (lv_at hl 0 rfl) ?_
    refine lv_dup X.hx X.hb dX2_readsSpade_17 rfl ?_
    refine r_getI X h (ci := 2) (k := 15) (C := RX2) (T := TX2) (N := 36) rfl in_X2 (by decide) q1074 rfl dX2_readsSpade_18 hf (fun x4 hf => ?_)
    refine lv_iconst (v := 1) X.hx X.hb dX2_readsSpade_21 (by decide) ?_
    refine lv_iadd X.hx X.hb dX2_readsSpade_22 ?_
    refine r_put X h (ci := 2) (k := 15) (C := RX2) (T := TX2) (N := 36) (ty0 := tyX2) (ty := .int) (v := .int (x4 + 1)) rfl in_X2 tyX2_ok nmX2 (by decide) q1074 rfl rfl (by decide +kernel) rfl rfl (fun j hj => by cases hj) dX2_readsSpade_23 hf (fun μ5 H locs hf h => ?_)
    refine lv_aload_n X.hx X.hb dX2_readsSpade_26 rfl (lv_at hl 0 rfl) ?_
    refine lv_iload_n X.hx X.hb dX2_readsSpade_27 rfl (lv_at hl 1 rfl) ?_
    refine lv_iconst (v := 1) X.hx X.hb dX2_readsSpade_28 (by decide) ?_
    refine r_cVI (As := [.int a1, .int 1]) (rest := []) (C := RX2) (T := TX2) (N := 36) X h hf (fun res hres => wX2_figure l Γ ad _ b0 a1 1 res hres) rfl (cwV 2 X.hts (lw_V q1258 q1260 qs44 q84 q1261) rfl rfl rfl (by decide +kernel) ⟨Nat.le_of_ble_eq_true rfl, Nat.le_of_ble_eq_true rfl⟩) rfl ⟨hl.1, Nat.le_of_ble_eq_true rfl, Nat.le_of_ble_eq_true rfl, Nat.le_of_ble_eq_true rfl⟩ rfl dX2_readsSpade_29 (fun x6 μ7 H locs hf h => ?_)
    refine lv_istore_n (lv' := [(2, .int x6), (0, .ref (ad b0)), (1, .int a1)]) X.hx X.hb dX2_readsSpade_32 rfl hl (by decide) rfl (fun ls hl => ?_)
    refine lv_aload_n X.hx X.hb dX2_readsSpade_33 rfl (lv_at hl 1 rfl) ?_
    refine lv_iload_n X.hx X.hb dX2_readsSpade_34 rfl (lv_at hl 0 rfl) ?_
    refine r_jn hf (fun j10 ej10 hf => ?_)
    have hj10 : ∀ (x8 : Int32) (μ9 : gM) (H : Heap) (locs : List Loc) (ls : Array Slot), j10 x8 μ9 = some r → gWd Γ A μ0.1 ad μ9 s.heap H locs → lv_has ls 3 [(2, .int x6)] → W p l e ({ frames := 2, cells := 0, slots := 0, locals := 45 } : Room) s m args below meth c H locs 0 0 (MQ below (gQ0 Γ ad μ0.1 r A) args s 0 0 A) (F0 m 46 ls [.int x8, .ref (ad b0)]) := by
      intro x8 μ9 H locs ls hf h hl
      rw [ej10] at hf
      refine r_put X h (ci := 2) (k := 17) (C := RX2) (T := TX2) (N := 36) (ty0 := tyX2) (ty := .int) (v := .int x8) rfl in_X2 tyX2_ok nmX2 (by decide) q1076 rfl rfl (by decide +kernel) rfl rfl (fun j hj => by cases hj) dX2_readsSpade_46 hf (fun μ11 H locs hf h => ?_)
      refine lv_iload_n X.hx X.hb dX2_readsSpade_49 rfl (lv_at hl 0 rfl) ?_
      exact r_rz X h hr hlk (Nat.le_of_ble_eq_true rfl) (Nat.le_of_ble_eq_true rfl) dX2_readsSpade_50 hf
    clear ej10
    refine lv_if_eq (tgt := 45) X.hx X.hb dX2_readsSpade_35 (by decide) (fun hc => ?_) (fun hc => ?_)
    · replace hf := gif_t hf hc
      clear hc
      refine lv_iconst (v := 0) X.hx X.hb dX2_readsSpade_45 (by decide) ?_
      exact hj10 _ _ _ _ _ hf h (lv_sub hl [0] rfl)
    · replace hf := gif_f hf hc
      clear hc
      refine lv_aload_n X.hx X.hb dX2_readsSpade_38 rfl (lv_at hl 1 rfl) ?_
      refine r_getI X h (ci := 2) (k := 16) (C := RX2) (T := TX2) (N := 36) rfl in_X2 (by decide) q1075 rfl dX2_readsSpade_39 hf (fun x12 hf => ?_)
      refine lv_goto (tgt := 46) X.hx X.hb dX2_readsSpade_42 (by decide) ?_
      exact hj10 _ _ _ _ _ hf h (lv_sub hl [0] rfl)
  · replace hf := gif_f hf hc
    clear hc
    refine lv_iconst (v := 0) X.hx X.hb dX2_readsSpade_14 (by decide) ?_
    exact r_rz X h hr hlk (Nat.le_of_ble_eq_true rfl) (Nat.le_of_ble_eq_true rfl) dX2_readsSpade_15 hf
/-! X2_faultOf -/
def fX2_faultOf_L15 (b0 : Nat) (a1 : Int32) (kx86 : gM → gR) (kx81 : gM → gR) : Nat → gM → gR
  | 0, _ => none
  | n5 + 1, μ4 => gI (gfld μ4 b0 2 15) fun x6 => gP (gfld μ4 b0 2 8) fun i7 => gaI μ4 0 i7 a1 fun x8 => if x8 ≤ x6 then (kx86 μ4) else (gI (gfld μ4 b0 2 15) fun x9 => gis μ4 b0 2 <| cI (fX2_byteAt μ4 b0 a1 x9) fun x10 μ11 => if x10 = 32 then (gI (gfld μ11 b0 2 15) fun x17 => gpf μ11 b0 2 15 (.int (x17 + 1)) fun μ18 => fX2_faultOf_L15 b0 a1 kx86 kx81 n5 μ18) else (gI (gfld μ11 b0 2 17) fun x12 => if x12 = 0 then (gis μ11 b0 2 <| cI (fX2_readsSpade μ11 b0 a1) fun x15 μ16 => if x15 = 0 then (kx81 μ16) else (fX2_faultOf_L15 b0 a1 kx86 kx81 n5 μ16)) else (gis μ11 b0 2 <| cI (fX2_readsKey μ11 b0 a1) fun x13 μ14 => if x13 = 0 then (kx81 μ14) else (fX2_faultOf_L15 b0 a1 kx86 kx81 n5 μ14))))
set_option maxHeartbeats 4000000 in
theorem wX2_faultOf_L15 {p : Program} {e : Env} {s : State} {m : MethodId} {args : Array Value} {below : List Frame} {meth : Method} {c : Code} {Γ : gG} {A : Nat → Prop} {nz : Nat} {ad : Nat → Nat} {r : Option Value × gM} (l : Launch) (b0 : Nat) (a1 : Int32) (kx86 : gM → gR) (kx81 : gM → gR) (X : gX p m c cX2_faultOf 2 s args "SandPianoModel" Γ A) (hr : meth.sig.returnType = (some .int)) (hlk : meth.locks = false) (hk86 : ∀  (μ : gM) (H : Heap) (locs : List Loc) (ls : Array Slot), kx86  μ = some r → gWd Γ A nz ad μ s.heap H locs → lv_has ls 2 [(0, .ref (ad b0)), (1, .int a1)] → W p l e ({ frames := 3, cells := 0, slots := 0, locals := 69 } : Room) s m args below meth c H locs 0 0 (MQ below (gQ0 Γ ad nz r A) args s 0 0 A) (F0 m 86 ls [])) (hk81 : ∀  (μ : gM) (H : Heap) (locs : List Loc) (ls : Array Slot), kx81  μ = some r → gWd Γ A nz ad μ s.heap H locs → lv_has ls 2 [(0, .ref (ad b0))] → W p l e ({ frames := 3, cells := 0, slots := 0, locals := 69 } : Room) s m args below meth c H locs 0 0 (MQ below (gQ0 Γ ad nz r A) args s 0 0 A) (F0 m 81 ls [])) : ∀ (n5 : Nat)  (μ4 : gM) (H : Heap) (locs : List Loc) (ls : Array Slot), fX2_faultOf_L15 b0 a1 kx86 kx81 n5  μ4 = some r → gWd Γ A nz ad μ4 s.heap H locs → lv_has ls 2 [(0, .ref (ad b0)), (1, .int a1)] → W p l e ({ frames := 3, cells := 0, slots := 0, locals := 69 } : Room) s m args below meth c H locs 0 0 (MQ below (gQ0 Γ ad nz r A) args s 0 0 A) (F0 m 15 ls []) := by
  intro n5
  induction n5 with
  | zero =>
    intro μ4 H locs ls hf h hl
    have hf : (none : gR) = some r := hf
    cases hf
  | succ n5 ih =>
    intro μ4 H locs ls hf h hl
    rw [fX2_faultOf_L15] at hf
    refine lv_aload_n X.hx X.hb dX2_faultOf_15 rfl (lv_at hl 0 rfl) ?_
    refine r_getI X h (ci := 2) (k := 15) (C := RX2) (T := TX2) (N := 36) rfl in_X2 (by decide) q1074 rfl dX2_faultOf_16 hf (fun x6 hf => ?_)
    refine lv_aload_n X.hx X.hb dX2_faultOf_19 rfl (lv_at hl 0 rfl) ?_
    refine r_getP X h (ci := 2) (k := 8) (C := RX2) (T := TX2) (N := 36) rfl in_X2 (by decide) q1067 rfl dX2_faultOf_20 hf (fun i7 hf => ?_)
    refine lv_iload_n X.hx X.hb dX2_faultOf_23 rfl (lv_at hl 1 rfl) ?_
    refine r_iald X h dX2_faultOf_24 hf (fun x8 hf => ?_)
    refine lv_icmp_ge (tgt := 86) X.hx X.hb dX2_faultOf_25 (by decide) (fun hc => ?_) (fun hc => ?_)
    · replace hf := gif_t hf hc
      clear hc
      exact hk86 _ _ _ _ hf h (lv_sub hl [0, 1] rfl)
    · replace hf := gif_f hf hc
      clear hc
      refine lv_aload_n X.hx X.hb dX2_faultOf_28 rfl (lv_at hl 0 rfl) ?_
      refine lv_iload_n X.hx X.hb dX2_faultOf_29 rfl (lv_at hl 1 rfl) ?_
      refine lv_aload_n X.hx X.hb dX2_faultOf_30 rfl (lv_at hl 0 rfl) ?_
      refine r_getI X h (ci := 2) (k := 15) (C := RX2) (T := TX2) (N := 36) rfl in_X2 (by decide) q1074 rfl dX2_faultOf_31 hf (fun x9 hf => ?_)
      refine r_cVI (As := [.int a1, .int x9]) (rest := []) (C := RX2) (T := TX2) (N := 36) X h hf (fun res hres => wX2_byteAt l Γ ad _ b0 a1 x9 res hres) rfl (cwV 2 X.hts (lw_V q1250 q1252 qs42 q84 q1253) rfl rfl rfl (by decide +kernel) ⟨Nat.le_of_ble_eq_true rfl, Nat.le_of_ble_eq_true rfl⟩) rfl ⟨hl.1, Nat.le_of_ble_eq_true rfl, Nat.le_of_ble_eq_true rfl, Nat.le_of_ble_eq_true rfl⟩ rfl dX2_faultOf_34 (fun x10 μ11 H locs hf h => ?_)
      refine lv_bipush (v := 32) X.hx X.hb dX2_faultOf_37 (by decide) ?_
      refine lv_icmp_ne (tgt := 55) X.hx X.hb dX2_faultOf_39 (by decide) (fun hc => ?_) (fun hc => ?_)
      · replace hf := gif_f hf hc
        clear hc
        refine lv_aload_n X.hx X.hb dX2_faultOf_55 rfl (lv_at hl 0 rfl) ?_
        refine r_getI X h (ci := 2) (k := 17) (C := RX2) (T := TX2) (N := 36) rfl in_X2 (by decide) q1076 rfl dX2_faultOf_56 hf (fun x12 hf => ?_)
        refine lv_if_ne (tgt := 73) X.hx X.hb dX2_faultOf_59 (by decide) (fun hc => ?_) (fun hc => ?_)
        · replace hf := gif_f hf hc
          clear hc
          refine lv_aload_n X.hx X.hb dX2_faultOf_73 rfl (lv_at hl 0 rfl) ?_
          refine lv_iload_n X.hx X.hb dX2_faultOf_74 rfl (lv_at hl 1 rfl) ?_
          refine r_cVI (As := [.int a1]) (rest := []) (C := RX2) (T := TX2) (N := 36) X h hf (fun res hres => wX2_readsKey l Γ ad _ b0 a1 res hres) rfl (cwV 1 X.hts (lw_V q1262 q1264 qs45 q84 q1265) rfl rfl rfl (by decide +kernel) ⟨Nat.le_of_ble_eq_true rfl, Nat.le_of_ble_eq_true rfl⟩) rfl ⟨hl.1, Nat.le_of_ble_eq_true rfl, Nat.le_of_ble_eq_true rfl, Nat.le_of_ble_eq_true rfl⟩ rfl dX2_faultOf_75 (fun x13 μ14 H locs hf h => ?_)
          refine lv_if_ne (tgt := 15) X.hx X.hb dX2_faultOf_78 (by decide) (fun hc => ?_) (fun hc => ?_)
          · replace hf := gif_f hf hc
            clear hc
            exact ih _ _ _ _ hf h (lv_sub hl [0, 1] rfl)
          · replace hf := gif_t hf hc
            clear hc
            exact hk81 _ _ _ _ hf h (lv_sub hl [0] rfl)
        · replace hf := gif_t hf hc
          clear hc
          refine lv_aload_n X.hx X.hb dX2_faultOf_62 rfl (lv_at hl 0 rfl) ?_
          refine lv_iload_n X.hx X.hb dX2_faultOf_63 rfl (lv_at hl 1 rfl) ?_
          refine r_cVI (As := [.int a1]) (rest := []) (C := RX2) (T := TX2) (N := 36) X h hf (fun res hres => wX2_readsSpade l Γ ad _ b0 a1 res hres) rfl (cwV 1 X.hts (lw_V q1254 q1256 qs43 q84 q1257) rfl rfl rfl (by decide +kernel) ⟨Nat.le_of_ble_eq_true rfl, Nat.le_of_ble_eq_true rfl⟩) rfl ⟨hl.1, Nat.le_of_ble_eq_true rfl, Nat.le_of_ble_eq_true rfl, Nat.le_of_ble_eq_true rfl⟩ rfl dX2_faultOf_64 (fun x15 μ16 H locs hf h => ?_)
          refine lv_if_eq (tgt := 81) X.hx X.hb dX2_faultOf_67 (by decide) (fun hc => ?_) (fun hc => ?_)
          · replace hf := gif_t hf hc
            clear hc
            exact hk81 _ _ _ _ hf h (lv_sub hl [0] rfl)
          · replace hf := gif_f hf hc
            clear hc
            refine lv_goto (tgt := 15) X.hx X.hb dX2_faultOf_70 (by decide) ?_
            exact ih _ _ _ _ hf h (lv_sub hl [0, 1] rfl)
      · replace hf := gif_t hf hc
        clear hc
        refine lv_aload_n X.hx X.hb dX2_faultOf_42 rfl (lv_at hl 0 rfl) ?_
        refine lv_dup X.hx X.hb dX2_faultOf_43 rfl ?_
        refine r_getI X h (ci := 2) (k := 15) (C := RX2) (T := TX2) (N := 36) rfl in_X2 (by decide) q1074 rfl dX2_faultOf_44 hf (fun x17 hf => ?_)
        refine lv_iconst (v := 1) X.hx X.hb dX2_faultOf_47 (by decide) ?_
        refine lv_iadd X.hx X.hb dX2_faultOf_48 ?_
        refine r_put X h (ci := 2) (k := 15) (C := RX2) (T := TX2) (N := 36) (ty0 := tyX2) (ty := .int) (v := .int (x17 + 1)) rfl in_X2 tyX2_ok nmX2 (by decide) q1074 rfl rfl (by decide +kernel) rfl rfl (fun j hj => by cases hj) dX2_faultOf_49 hf (fun μ18 H locs hf h => ?_)
        refine lv_goto (tgt := 15) X.hx X.hb dX2_faultOf_52 (by decide) ?_
        exact ih _ _ _ _ hf h (lv_sub hl [0, 1] rfl)
def fX2_faultOf (μ0 : gM) (b0 : Nat) (a1 : Int32) : gR := gpf μ0 b0 2 15 (.int 0) fun μ1 => gpf μ1 b0 2 17 (.int 0) fun μ2 => gpf μ2 b0 2 18 (.int 0) fun μ3 => fX2_faultOf_L15 b0 a1 (fun (μ19 : gM) => gI (gfld μ19 b0 2 17) fun x20 => if x20 = 0 then (gP (gfld μ19 b0 2 8) fun i21 => gaI μ19 0 i21 a1 fun x22 => some (some (.int x22), μ19)) else (some (some (.int (-9)), μ19))) (fun (μ23 : gM) => gI (gfld μ23 b0 2 15) fun x24 => some (some (.int x24), μ23)) 10000 μ3
set_option maxHeartbeats 4000000 in
theorem wX2_faultOf (l : Launch) (Γ : gG) (ad : Nat → Nat) (μ0 : gM) (b0 : Nat) (a1 : Int32) (r : Option Value × gM) (hf : fX2_faultOf μ0 b0 a1 = some r) : gMt0 l Γ yX2_faultOf (ws_ yX2_faultOf cX2_faultOf 2 (some .int)) ({ frames := 3, cells := 0, slots := 0, locals := 69 } : Room) 0 0 ad μ0 [.ref (ad b0), .int a1] r := by
  intro sz
  refine g_start (maxL := 2) (ret := (some .int)) (by decide) rfl g_all (Nat.le_of_ble_eq_true rfl) ?_
  intro p e s m below meth c ls hr hlk hnm X h hl
  generalize gA ad μ0 sz = A at X h ⊢
  generalize ([.ref (ad b0), .int a1] : List Value).toArray = args at X ⊢
  have X : gX p m c cX2_faultOf 2 s args "SandPianoModel" Γ A := X
  have hl : lv_has ls 2 [(0, .ref (ad b0)), (1, .int a1)] := hl
  show W p l e ({ frames := 3, cells := 0, slots := 0, locals := 69 } : Room) s m args below meth c s.heap [] 0 0 (MQ below (gQ0 Γ ad μ0.1 r A) args s 0 0 A) (F0 m 0 ls [])
  unfold fX2_faultOf at hf
  refine lv_aload_n X.hx X.hb dX2_faultOf_0 rfl (lv_at hl 0 rfl) ?_
  refine lv_iconst (v := 0) X.hx X.hb dX2_faultOf_1 (by decide) ?_
  refine r_put X h (ci := 2) (k := 15) (C := RX2) (T := TX2) (N := 36) (ty0 := tyX2) (ty := .int) (v := .int 0) rfl in_X2 tyX2_ok nmX2 (by decide) q1074 rfl rfl (by decide +kernel) rfl rfl (fun j hj => by cases hj) dX2_faultOf_2 hf (fun μ1 H locs hf h => ?_)
  refine lv_aload_n X.hx X.hb dX2_faultOf_5 rfl (lv_at hl 0 rfl) ?_
  refine lv_iconst (v := 0) X.hx X.hb dX2_faultOf_6 (by decide) ?_
  refine r_put X h (ci := 2) (k := 17) (C := RX2) (T := TX2) (N := 36) (ty0 := tyX2) (ty := .int) (v := .int 0) rfl in_X2 tyX2_ok nmX2 (by decide) q1076 rfl rfl (by decide +kernel) rfl rfl (fun j hj => by cases hj) dX2_faultOf_7 hf (fun μ2 H locs hf h => ?_)
  refine lv_aload_n X.hx X.hb dX2_faultOf_10 rfl (lv_at hl 0 rfl) ?_
  refine lv_iconst (v := 0) X.hx X.hb dX2_faultOf_11 (by decide) ?_
  refine r_put X h (ci := 2) (k := 18) (C := RX2) (T := TX2) (N := 36) (ty0 := tyX2) (ty := .int) (v := .int 0) rfl in_X2 tyX2_ok nmX2 (by decide) q1077 rfl rfl (by decide +kernel) rfl rfl (fun j hj => by cases hj) dX2_faultOf_12 hf (fun μ3 H locs hf h => ?_)
  refine wX2_faultOf_L15 l b0 a1 _ _ X hr hlk (fun μ19 H locs ls hf h hl => ?_) (fun μ23 H locs ls hf h hl => ?_) 10000 _ _ _ _ hf h (lv_sub hl [0, 1] rfl)
  · refine lv_aload_n X.hx X.hb dX2_faultOf_86 rfl (lv_at hl 0 rfl) ?_
    refine r_getI X h (ci := 2) (k := 17) (C := RX2) (T := TX2) (N := 36) rfl in_X2 (by decide) q1076 rfl dX2_faultOf_87 hf (fun x20 hf => ?_)
    refine lv_if_ne (tgt := 102) X.hx X.hb dX2_faultOf_90 (by decide) (fun hc => ?_) (fun hc => ?_)
    · replace hf := gif_f hf hc
      clear hc
      refine lv_bipush (v := (-9)) X.hx X.hb dX2_faultOf_102 (by decide) ?_
      exact r_ri X h hr hlk (Nat.le_of_ble_eq_true rfl) (Nat.le_of_ble_eq_true rfl) dX2_faultOf_104 hf
    · replace hf := gif_t hf hc
      clear hc
      refine lv_aload_n X.hx X.hb dX2_faultOf_93 rfl (lv_at hl 0 rfl) ?_
      refine r_getP X h (ci := 2) (k := 8) (C := RX2) (T := TX2) (N := 36) rfl in_X2 (by decide) q1067 rfl dX2_faultOf_94 hf (fun i21 hf => ?_)
      refine lv_iload_n X.hx X.hb dX2_faultOf_97 rfl (lv_at hl 1 rfl) ?_
      refine r_iald X h dX2_faultOf_98 hf (fun x22 hf => ?_)
      refine lv_goto (tgt := 104) X.hx X.hb dX2_faultOf_99 (by decide) ?_
      exact r_ri X h hr hlk (Nat.le_of_ble_eq_true rfl) (Nat.le_of_ble_eq_true rfl) dX2_faultOf_104 hf
  · refine lv_aload_n X.hx X.hb dX2_faultOf_81 rfl (lv_at hl 0 rfl) ?_
    refine r_getI X h (ci := 2) (k := 15) (C := RX2) (T := TX2) (N := 36) rfl in_X2 (by decide) q1074 rfl dX2_faultOf_82 hf (fun x24 hf => ?_)
    exact r_ri X h hr hlk (Nat.le_of_ble_eq_true rfl) (Nat.le_of_ble_eq_true rfl) dX2_faultOf_85 hf
/-! X2_isText -/
def fX2_isText (μ0 : gM) (a1 : Int32) : gR := cI (fX2_in μ0 a1 0 3) fun x1 μ2 => rZ x1 μ2
set_option maxHeartbeats 4000000 in
theorem wX2_isText (l : Launch) (Γ : gG) (ad : Nat → Nat) (μ0 : gM) (a1 : Int32) (r : Option Value × gM) (hf : fX2_isText μ0 a1 = some r) : gMt0 l Γ yX2_isText (ws_ yX2_isText cX2_isText 1 (some .boolean)) ({ frames := 1, cells := 0, slots := 0, locals := 22 } : Room) 0 0 ad μ0 [.int a1] r := by
  intro sz
  refine g_start (maxL := 1) (ret := (some .boolean)) (by decide) rfl g_all (Nat.le_of_ble_eq_true rfl) ?_
  intro p e s m below meth c ls hr hlk hnm X h hl
  generalize gA ad μ0 sz = A at X h ⊢
  generalize ([.int a1] : List Value).toArray = args at X ⊢
  have X : gX p m c cX2_isText 1 s args "SandPianoModel" Γ A := X
  have hl : lv_has ls 1 [(0, .int a1)] := hl
  show W p l e ({ frames := 1, cells := 0, slots := 0, locals := 22 } : Room) s m args below meth c s.heap [] 0 0 (MQ below (gQ0 Γ ad μ0.1 r A) args s 0 0 A) (F0 m 0 ls [])
  unfold fX2_isText at hf
  refine lv_iload_n X.hx X.hb dX2_isText_0 rfl (lv_at hl 0 rfl) ?_
  refine lv_iconst (v := 0) X.hx X.hb dX2_isText_1 (by decide) ?_
  refine lv_iconst (v := 3) X.hx X.hb dX2_isText_2 (by decide) ?_
  refine r_cSI (As := [.int a1, .int 0, .int 3]) (rest := []) X h hf (fun res hres => wX2_in l Γ ad _ a1 0 3 res hres) (va_cwS 3 X.hts (lw_S q1177 q1178 q84 q1179) rfl rfl rfl (by decide +kernel) ⟨Nat.le_of_ble_eq_true rfl, Nat.le_of_ble_eq_true rfl⟩) rfl ⟨hl.1, Nat.le_of_ble_eq_true rfl, Nat.le_of_ble_eq_true rfl, Nat.le_of_ble_eq_true rfl⟩ rfl dX2_isText_3 (fun x1 μ2 H locs hf h => ?_)
  exact r_rz X h hr hlk (Nat.le_of_ble_eq_true rfl) (Nat.le_of_ble_eq_true rfl) dX2_isText_6 hf
/-! X2_fault -/
def fX2_fault (μ0 : gM) (b0 : Nat) (a1 : Int32) : gR := cI (fX2_isText μ0 a1) fun x1 μ2 => if x1 = 0 then (some (some (.int (-1)), μ2)) else (gP (gfld μ2 b0 2 8) fun i3 => gaI μ2 0 i3 a1 fun x4 => if 0 ≤ x4 then (gis μ2 b0 2 <| cI (fX2_faultOf μ2 b0 a1) fun x5 μ6 => some (some (.int x5), μ6)) else (gis μ2 b0 2 <| cI (fX2_meets μ2 b0 1) fun x7 μ8 => some (some (.int x7), μ8)))
set_option maxHeartbeats 4000000 in
theorem wX2_fault (l : Launch) (Γ : gG) (ad : Nat → Nat) (μ0 : gM) (b0 : Nat) (a1 : Int32) (r : Option Value × gM) (hf : fX2_fault μ0 b0 a1 = some r) : gMt0 l Γ yX2_fault (ws_ yX2_fault cX2_fault 2 (some .int)) ({ frames := 4, cells := 0, slots := 0, locals := 90 } : Room) 0 0 ad μ0 [.ref (ad b0), .int a1] r := by
  intro sz
  refine g_start (maxL := 2) (ret := (some .int)) (by decide) rfl g_all (Nat.le_of_ble_eq_true rfl) ?_
  intro p e s m below meth c ls hr hlk hnm X h hl
  generalize gA ad μ0 sz = A at X h ⊢
  generalize ([.ref (ad b0), .int a1] : List Value).toArray = args at X ⊢
  have X : gX p m c cX2_fault 2 s args "SandPianoModel" Γ A := X
  have hl : lv_has ls 2 [(0, .ref (ad b0)), (1, .int a1)] := hl
  show W p l e ({ frames := 4, cells := 0, slots := 0, locals := 90 } : Room) s m args below meth c s.heap [] 0 0 (MQ below (gQ0 Γ ad μ0.1 r A) args s 0 0 A) (F0 m 0 ls [])
  unfold fX2_fault at hf
  refine lv_iload_n X.hx X.hb dX2_fault_0 rfl (lv_at hl 1 rfl) ?_
  refine r_cSI (As := [.int a1]) (rest := []) X h hf (fun res hres => wX2_isText l Γ ad _ a1 res hres) (va_cwS 1 X.hts (lw_S q1235 q1236 q84 q1237) rfl rfl rfl (by decide +kernel) ⟨Nat.le_of_ble_eq_true rfl, Nat.le_of_ble_eq_true rfl⟩) rfl ⟨hl.1, Nat.le_of_ble_eq_true rfl, Nat.le_of_ble_eq_true rfl, Nat.le_of_ble_eq_true rfl⟩ rfl dX2_fault_1 (fun x1 μ2 H locs hf h => ?_)
  refine lv_if_ne (tgt := 9) X.hx X.hb dX2_fault_4 (by decide) (fun hc => ?_) (fun hc => ?_)
  · replace hf := gif_f hf hc
    clear hc
    refine lv_aload_n X.hx X.hb dX2_fault_9 rfl (lv_at hl 0 rfl) ?_
    refine r_getP X h (ci := 2) (k := 8) (C := RX2) (T := TX2) (N := 36) rfl in_X2 (by decide) q1067 rfl dX2_fault_10 hf (fun i3 hf => ?_)
    refine lv_iload_n X.hx X.hb dX2_fault_13 rfl (lv_at hl 1 rfl) ?_
    refine r_iald X h dX2_fault_14 hf (fun x4 hf => ?_)
    refine lv_if_ge (tgt := 26) X.hx X.hb dX2_fault_15 (by decide) (fun hc => ?_) (fun hc => ?_)
    · replace hf := gif_t hf hc
      clear hc
      refine lv_aload_n X.hx X.hb dX2_fault_26 rfl (lv_at hl 0 rfl) ?_
      refine lv_iload_n X.hx X.hb dX2_fault_27 rfl (lv_at hl 1 rfl) ?_
      refine r_cVI (As := [.int a1]) (rest := []) (C := RX2) (T := TX2) (N := 36) X h hf (fun res hres => wX2_faultOf l Γ ad _ b0 a1 res hres) rfl (cwV 1 X.hts (lw_V q1246 q1248 qs41 q84 q1249) rfl rfl rfl (by decide +kernel) ⟨Nat.le_of_ble_eq_true rfl, Nat.le_of_ble_eq_true rfl⟩) rfl ⟨hl.1, Nat.le_of_ble_eq_true rfl, Nat.le_of_ble_eq_true rfl, Nat.le_of_ble_eq_true rfl⟩ rfl dX2_fault_28 (fun x5 μ6 H locs hf h => ?_)
      exact r_ri X h hr hlk (Nat.le_of_ble_eq_true rfl) (Nat.le_of_ble_eq_true rfl) dX2_fault_31 hf
    · replace hf := gif_f hf hc
      clear hc
      refine lv_aload_n X.hx X.hb dX2_fault_18 rfl (lv_at hl 0 rfl) ?_
      refine lv_iconst (v := 1) X.hx X.hb dX2_fault_19 (by decide) ?_
      refine r_cVI (As := [.int 1]) (rest := []) (C := RX2) (T := TX2) (N := 36) X h hf (fun res hres => wX2_meets l Γ ad _ b0 1 res hres) rfl (cwV 1 X.hts (lw_V q1199 q1201 qs38 q84 q1202) rfl rfl rfl (by decide +kernel) ⟨Nat.le_of_ble_eq_true rfl, Nat.le_of_ble_eq_true rfl⟩) rfl ⟨hl.1, Nat.le_of_ble_eq_true rfl, Nat.le_of_ble_eq_true rfl, Nat.le_of_ble_eq_true rfl⟩ rfl dX2_fault_20 (fun x7 μ8 H locs hf h => ?_)
      refine lv_goto (tgt := 31) X.hx X.hb dX2_fault_23 (by decide) ?_
      exact r_ri X h hr hlk (Nat.le_of_ble_eq_true rfl) (Nat.le_of_ble_eq_true rfl) dX2_fault_31 hf
  · replace hf := gif_t hf hc
    clear hc
    refine lv_iconst (v := (-1)) X.hx X.hb dX2_fault_7 (by decide) ?_
    exact r_ri X h hr hlk (Nat.le_of_ble_eq_true rfl) (Nat.le_of_ble_eq_true rfl) dX2_fault_8 hf
/-! X2_finding -/
def fX2_finding (μ0 : gM) (b0 : Nat) : gR := gI (gfld μ0 b0 2 0) fun x1 => some (some (.int x1), μ0)
set_option maxHeartbeats 4000000 in
theorem wX2_finding (l : Launch) (Γ : gG) (ad : Nat → Nat) (μ0 : gM) (b0 : Nat) (r : Option Value × gM) (hf : fX2_finding μ0 b0 = some r) : gMt0 l Γ yX2_finding (ws_ yX2_finding cX2_finding 1 (some .int)) ({ frames := 0, cells := 0, slots := 0, locals := 0 } : Room) 0 0 ad μ0 [.ref (ad b0)] r := by
  intro sz
  refine g_start (maxL := 1) (ret := (some .int)) (by decide) rfl g_all (Nat.le_of_ble_eq_true rfl) ?_
  intro p e s m below meth c ls hr hlk hnm X h hl
  generalize gA ad μ0 sz = A at X h ⊢
  generalize ([.ref (ad b0)] : List Value).toArray = args at X ⊢
  have X : gX p m c cX2_finding 1 s args "SandPianoModel" Γ A := X
  have hl : lv_has ls 1 [(0, .ref (ad b0))] := hl
  show W p l e ({ frames := 0, cells := 0, slots := 0, locals := 0 } : Room) s m args below meth c s.heap [] 0 0 (MQ below (gQ0 Γ ad μ0.1 r A) args s 0 0 A) (F0 m 0 ls [])
  unfold fX2_finding at hf
  refine lv_aload_n X.hx X.hb dX2_finding_0 rfl (lv_at hl 0 rfl) ?_
  refine r_getI X h (ci := 2) (k := 0) (C := RX2) (T := TX2) (N := 36) rfl in_X2 (by decide) q1059 rfl dX2_finding_1 hf (fun x1 hf => ?_)
  exact r_ri X h hr hlk (Nat.le_of_ble_eq_true rfl) (Nat.le_of_ble_eq_true rfl) dX2_finding_4 hf
/-! X2_findings -/
def fX2_findings (μ0 : gM) (b0 : Nat) (a1 : Int32) : gR := cI (fX2_in μ0 a1 1 5) fun x1 μ2 => if x1 = 0 then (some (some (.int (-1)), μ2)) else (gP (gfld μ2 b0 2 1) fun i3 => gaI μ2 0 i3 a1 fun x4 => some (some (.int x4), μ2))
set_option maxHeartbeats 4000000 in
theorem wX2_findings (l : Launch) (Γ : gG) (ad : Nat → Nat) (μ0 : gM) (b0 : Nat) (a1 : Int32) (r : Option Value × gM) (hf : fX2_findings μ0 b0 a1 = some r) : gMt0 l Γ yX2_findings (ws_ yX2_findings cX2_findings 2 (some .int)) ({ frames := 1, cells := 0, slots := 0, locals := 22 } : Room) 0 0 ad μ0 [.ref (ad b0), .int a1] r := by
  intro sz
  refine g_start (maxL := 2) (ret := (some .int)) (by decide) rfl g_all (Nat.le_of_ble_eq_true rfl) ?_
  intro p e s m below meth c ls hr hlk hnm X h hl
  generalize gA ad μ0 sz = A at X h ⊢
  generalize ([.ref (ad b0), .int a1] : List Value).toArray = args at X ⊢
  have X : gX p m c cX2_findings 2 s args "SandPianoModel" Γ A := X
  have hl : lv_has ls 2 [(0, .ref (ad b0)), (1, .int a1)] := hl
  show W p l e ({ frames := 1, cells := 0, slots := 0, locals := 22 } : Room) s m args below meth c s.heap [] 0 0 (MQ below (gQ0 Γ ad μ0.1 r A) args s 0 0 A) (F0 m 0 ls [])
  unfold fX2_findings at hf
  refine lv_iload_n X.hx X.hb dX2_findings_0 rfl (lv_at hl 1 rfl) ?_
  refine lv_iconst (v := 1) X.hx X.hb dX2_findings_1 (by decide) ?_
  refine lv_iconst (v := 5) X.hx X.hb dX2_findings_2 (by decide) ?_
  refine r_cSI (As := [.int a1, .int 1, .int 5]) (rest := []) X h hf (fun res hres => wX2_in l Γ ad _ a1 1 5 res hres) (va_cwS 3 X.hts (lw_S q1177 q1178 q84 q1179) rfl rfl rfl (by decide +kernel) ⟨Nat.le_of_ble_eq_true rfl, Nat.le_of_ble_eq_true rfl⟩) rfl ⟨hl.1, Nat.le_of_ble_eq_true rfl, Nat.le_of_ble_eq_true rfl, Nat.le_of_ble_eq_true rfl⟩ rfl dX2_findings_3 (fun x1 μ2 H locs hf h => ?_)
  refine lv_if_eq (tgt := 18) X.hx X.hb dX2_findings_6 (by decide) (fun hc => ?_) (fun hc => ?_)
  · replace hf := gif_t hf hc
    clear hc
    refine lv_iconst (v := (-1)) X.hx X.hb dX2_findings_18 (by decide) ?_
    exact r_ri X h hr hlk (Nat.le_of_ble_eq_true rfl) (Nat.le_of_ble_eq_true rfl) dX2_findings_19 hf
  · replace hf := gif_f hf hc
    clear hc
    refine lv_aload_n X.hx X.hb dX2_findings_9 rfl (lv_at hl 0 rfl) ?_
    refine r_getP X h (ci := 2) (k := 1) (C := RX2) (T := TX2) (N := 36) rfl in_X2 (by decide) q1060 rfl dX2_findings_10 hf (fun i3 hf => ?_)
    refine lv_iload_n X.hx X.hb dX2_findings_13 rfl (lv_at hl 1 rfl) ?_
    refine r_iald X h dX2_findings_14 hf (fun x4 hf => ?_)
    refine lv_goto (tgt := 19) X.hx X.hb dX2_findings_15 (by decide) ?_
    exact r_ri X h hr hlk (Nat.le_of_ble_eq_true rfl) (Nat.le_of_ble_eq_true rfl) dX2_findings_19 hf
