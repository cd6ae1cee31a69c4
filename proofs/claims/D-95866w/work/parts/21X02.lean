set_option maxRecDepth 100000
/-! X1_take -/
def fX1_take (μ0 : gM) (b0 : Nat) (b1 : Nat) : gR := gP (gfld μ0 b1 1 0) fun i1 => gP (gfld μ0 b0 1 0) fun i2 => gcp μ0 i1 0 i2 0 9 fun μ3 => some (none, μ3)
set_option maxHeartbeats 4000000 in
theorem wX1_take (l : Launch) (Γ : gG) (ad : Nat → Nat) (μ0 : gM) (b0 : Nat) (b1 : Nat) (r : Option Value × gM) (hf : fX1_take μ0 b0 b1 = some r) : gMt0 l Γ yX1_take (ws_ yX1_take cX1_take 2 none) ({ frames := 1, cells := 0, slots := 0, locals := 26 } : Room) 0 0 ad μ0 [.ref (ad b0), .ref (ad b1)] r := by
  intro sz
  refine g_start (maxL := 2) (ret := none) (by decide) rfl g_all (Nat.le_of_ble_eq_true rfl) ?_
  intro p e s m below meth c ls hr hlk hnm X h hl
  generalize gA ad μ0 sz = A at X h ⊢
  generalize ([.ref (ad b0), .ref (ad b1)] : List Value).toArray = args at X ⊢
  have X : gX p m c cX1_take 2 s args "SandPiano$Sands" Γ A := X
  have hl : lv_has ls 2 [(0, .ref (ad b0)), (1, .ref (ad b1))] := hl
  show W p l e ({ frames := 1, cells := 0, slots := 0, locals := 26 } : Room) s m args below meth c s.heap [] 0 0 (MQ below (gQ0 Γ ad μ0.1 r A) args s 0 0 A) (F0 m 0 ls [])
  unfold fX1_take at hf
  refine lv_aload_n X.hx X.hb dX1_take_0 rfl (lv_at hl 1 rfl) ?_
  refine r_getP X h (ci := 1) (k := 0) (C := RX1) (T := TX1) (N := 1) rfl in_X1 (by decide) q125 rfl dX1_take_1 hf (fun i1 hf => ?_)
  refine lv_iconst (v := 0) X.hx X.hb dX1_take_4 (by decide) ?_
  refine lv_aload_n X.hx X.hb dX1_take_5 rfl (lv_at hl 0 rfl) ?_
  refine r_getP X h (ci := 1) (k := 0) (C := RX1) (T := TX1) (N := 1) rfl in_X1 (by decide) q125 rfl dX1_take_6 hf (fun i2 hf => ?_)
  refine lv_iconst (v := 0) X.hx X.hb dX1_take_9 (by decide) ?_
  refine lv_bipush (v := 9) X.hx X.hb dX1_take_10 (by decide) ?_
  refine r_copy X h hl.1 q836 (Nat.le_of_ble_eq_true rfl) (Nat.le_trans (m := 26) (Nat.le_of_ble_eq_true rfl) (Nat.le_of_ble_eq_true rfl)) dX1_take_12 hf (fun μ3 H locs hf h => ?_)
  exact r_rv X h hr hlk (Nat.le_of_ble_eq_true rfl) (Nat.le_of_ble_eq_true rfl) dX1_take_15 hf
/-! X0_goDeep -/
def fX0_goDeep (μ0 : gM) (b0 : Nat) (a1 : Int32) (a2 : Int32) : gR := gP (gfld μ0 b0 0 25) fun i1 => gaQ μ0 7 i1 (a1 + 1) fun o2 => gnn o2 fun i3 => gP (gfld μ0 b0 0 25) fun i4 => gaQ μ0 7 i4 a1 fun o5 => gnn o5 fun i6 => gis μ0 i3 1 <| cV (fX1_take μ0 i3 i6) fun μ7 => gP (gfld μ7 b0 0 25) fun i8 => gaQ μ7 7 i8 (a1 + 1) fun o9 => gnn o9 fun i10 => gis μ7 b0 0 <| cV (fX0_playIn μ7 b0 i10 a2) fun μ11 => gP (gfld μ11 b0 0 26) fun i12 => gsI μ11 0 i12 a1 a2 fun μ13 => some (none, μ13)
set_option maxHeartbeats 4000000 in
theorem wX0_goDeep (l : Launch) (Γ : gG) (ad : Nat → Nat) (μ0 : gM) (b0 : Nat) (a1 : Int32) (a2 : Int32) (r : Option Value × gM) (hf : fX0_goDeep μ0 b0 a1 a2 = some r) : gMt0 l Γ yX0_goDeep (ws_ yX0_goDeep cX0_goDeep 3 none) ({ frames := 4, cells := 0, slots := 0, locals := 89 } : Room) 0 0 ad μ0 [.ref (ad b0), .int a1, .int a2] r := by
  intro sz
  refine g_start (maxL := 3) (ret := none) (by decide) rfl g_all (Nat.le_of_ble_eq_true rfl) ?_
  intro p e s m below meth c ls hr hlk hnm X h hl
  generalize gA ad μ0 sz = A at X h ⊢
  generalize ([.ref (ad b0), .int a1, .int a2] : List Value).toArray = args at X ⊢
  have X : gX p m c cX0_goDeep 3 s args "SandPiano" Γ A := X
  have hl : lv_has ls 3 [(0, .ref (ad b0)), (1, .int a1), (2, .int a2)] := hl
  show W p l e ({ frames := 4, cells := 0, slots := 0, locals := 89 } : Room) s m args below meth c s.heap [] 0 0 (MQ below (gQ0 Γ ad μ0.1 r A) args s 0 0 A) (F0 m 0 ls [])
  unfold fX0_goDeep at hf
  refine lv_aload_n X.hx X.hb dX0_goDeep_0 rfl (lv_at hl 0 rfl) ?_
  refine r_getP X h (ci := 0) (k := 25) (C := RX0) (T := TX0) (N := 36) rfl in_X0 (by decide) q167 rfl dX0_goDeep_1 hf (fun i1 hf => ?_)
  refine lv_iload_n X.hx X.hb dX0_goDeep_4 rfl (lv_at hl 1 rfl) ?_
  refine lv_iconst (v := 1) X.hx X.hb dX0_goDeep_5 (by decide) ?_
  refine lv_iadd X.hx X.hb dX0_goDeep_6 ?_
  refine r_aald X h (t := 7) rfl rfl dX0_goDeep_7 hf (fun o2 hf => ?_)
  refine r_nn hf (fun i3 hf => ?_)
  refine lv_aload_n X.hx X.hb dX0_goDeep_8 rfl (lv_at hl 0 rfl) ?_
  refine r_getP X h (ci := 0) (k := 25) (C := RX0) (T := TX0) (N := 36) rfl in_X0 (by decide) q167 rfl dX0_goDeep_9 hf (fun i4 hf => ?_)
  refine lv_iload_n X.hx X.hb dX0_goDeep_12 rfl (lv_at hl 1 rfl) ?_
  refine r_aald X h (t := 7) rfl rfl dX0_goDeep_13 hf (fun o5 hf => ?_)
  refine r_nn hf (fun i6 hf => ?_)
  refine r_cVV (As := [.ref (ad i6)]) (rest := []) (C := RX1) (T := TX1) (N := 1) X h hf (fun res hres => wX1_take l Γ ad _ i3 i6 res hres) rfl (cwV 1 X.hts (lw_V q832 q833 q834 q83 q835) rfl rfl rfl (by decide +kernel) ⟨Nat.le_of_ble_eq_true rfl, Nat.le_of_ble_eq_true rfl⟩) rfl ⟨hl.1, Nat.le_of_ble_eq_true rfl, Nat.le_of_ble_eq_true rfl, Nat.le_of_ble_eq_true rfl⟩ rfl dX0_goDeep_14 (fun μ7 H locs hf h => ?_)
  refine lv_aload_n X.hx X.hb dX0_goDeep_17 rfl (lv_at hl 0 rfl) ?_
  refine lv_aload_n X.hx X.hb dX0_goDeep_18 rfl (lv_at hl 0 rfl) ?_
  refine r_getP X h (ci := 0) (k := 25) (C := RX0) (T := TX0) (N := 36) rfl in_X0 (by decide) q167 rfl dX0_goDeep_19 hf (fun i8 hf => ?_)
  refine lv_iload_n X.hx X.hb dX0_goDeep_22 rfl (lv_at hl 1 rfl) ?_
  refine lv_iconst (v := 1) X.hx X.hb dX0_goDeep_23 (by decide) ?_
  refine lv_iadd X.hx X.hb dX0_goDeep_24 ?_
  refine r_aald X h (t := 7) rfl rfl dX0_goDeep_25 hf (fun o9 hf => ?_)
  refine r_nn hf (fun i10 hf => ?_)
  refine lv_iload_n X.hx X.hb dX0_goDeep_26 rfl (lv_at hl 2 rfl) ?_
  refine r_cVV (As := [.ref (ad i10), .int a2]) (rest := []) (C := RX0) (T := TX0) (N := 36) X h hf (fun res hres => wX0_playIn l Γ ad _ b0 i10 a2 res hres) rfl (cwV 2 X.hts (lw_V q722 q724 qs14 q82 q725) rfl rfl rfl (by decide +kernel) ⟨Nat.le_of_ble_eq_true rfl, Nat.le_of_ble_eq_true rfl⟩) rfl ⟨hl.1, Nat.le_of_ble_eq_true rfl, Nat.le_of_ble_eq_true rfl, Nat.le_of_ble_eq_true rfl⟩ rfl dX0_goDeep_27 (fun μ11 H locs hf h => ?_)
  refine lv_aload_n X.hx X.hb dX0_goDeep_30 rfl (lv_at hl 0 rfl) ?_
  refine r_getP X h (ci := 0) (k := 26) (C := RX0) (T := TX0) (N := 36) rfl in_X0 (by decide) q168 rfl dX0_goDeep_31 hf (fun i12 hf => ?_)
  refine lv_iload_n X.hx X.hb dX0_goDeep_34 rfl (lv_at hl 1 rfl) ?_
  refine lv_iload_n X.hx X.hb dX0_goDeep_35 rfl (lv_at hl 2 rfl) ?_
  refine r_iast X h dX0_goDeep_36 hf (fun μ13 H locs hf h => ?_)
  exact r_rv X h hr hlk (Nat.le_of_ble_eq_true rfl) (Nat.le_of_ble_eq_true rfl) dX0_goDeep_37 hf
/-! X0_liesAsNow -/
def fX0_liesAsNow_L4 (b0 : Nat) (b1 : Nat) : Nat → Int32 → Int32 → gM → gR
  | 0, _, _, _ => none
  | n4 + 1, x1, x2, μ3 => gI (gfld μ3 b0 0 7) fun x5 => if x5 ≤ x2 then (rZ x1 μ3) else (gP (gfld μ3 b1 1 0) fun i6 => gaI μ3 0 i6 x2 fun x7 => gP (gfld μ3 b0 0 10) fun i8 => gP (gfld μ3 i8 1 0) fun i9 => gaI μ3 0 i9 x2 fun x10 => gjn (fun (x11 : Int32) (μ12 : gM) => gnm ((x1 &&& x11)) fun x14 => gnm (x2 + 1) fun x15 => fX0_liesAsNow_L4 b0 b1 n4 x14 x15 μ12) fun j13 => if x7 = x10 then (j13 1 μ3) else (j13 0 μ3))
set_option maxHeartbeats 4000000 in
theorem wX0_liesAsNow_L4 {p : Program} {e : Env} {s : State} {m : MethodId} {args : Array Value} {below : List Frame} {meth : Method} {c : Code} {Γ : gG} {A : Nat → Prop} {nz : Nat} {ad : Nat → Nat} {r : Option Value × gM} (l : Launch) (b0 : Nat) (b1 : Nat) (X : gX p m c cX0_liesAsNow 4 s args "SandPiano" Γ A) (hr : meth.sig.returnType = (some .boolean)) (hlk : meth.locks = false) : ∀ (n4 : Nat) (x1 : Int32) (x2 : Int32) (μ3 : gM) (H : Heap) (locs : List Loc) (ls : Array Slot), fX0_liesAsNow_L4 b0 b1 n4 x1 x2 μ3 = some r → gWd Γ A nz ad μ3 s.heap H locs → lv_has ls 4 [(0, .ref (ad b0)), (1, .ref (ad b1)), (2, .int x1), (3, .int x2)] → W p l e ({ frames := 0, cells := 0, slots := 0, locals := 0 } : Room) s m args below meth c H locs 0 0 (MQ below (gQ0 Γ ad nz r A) args s 0 0 A) (F0 m 4 ls []) := by
  intro n4
  induction n4 with
  | zero =>
    intro x1 x2 μ3 H locs ls hf h hl
    have hf : (none : gR) = some r := hf
    cases hf
  | succ n4 ih =>
    intro x1 x2 μ3 H locs ls hf h hl
    rw [fX0_liesAsNow_L4] at hf
    refine lv_iload_n X.hx X.hb dX0_liesAsNow_4 rfl (lv_at hl 3 rfl) ?_
    refine lv_aload_n X.hx X.hb dX0_liesAsNow_5 rfl (lv_at hl 0 rfl) ?_
    refine r_getI X h (ci := 0) (k := 7) (C := RX0) (T := TX0) (N := 36) rfl in_X0 (by decide) q149 rfl dX0_liesAsNow_6 hf (fun x5 hf => ?_)
    refine lv_icmp_ge (tgt := 44) X.hx X.hb dX0_liesAsNow_9 (by decide) (fun hc => ?_) (fun hc => ?_)
    · replace hf := gif_t hf hc
      clear hc
      refine lv_iload_n X.hx X.hb dX0_liesAsNow_44 rfl (lv_at hl 2 rfl) ?_
      exact r_rz X h hr hlk (Nat.le_of_ble_eq_true rfl) (Nat.le_of_ble_eq_true rfl) dX0_liesAsNow_45 hf
    · replace hf := gif_f hf hc
      clear hc
      refine lv_iload_n X.hx X.hb dX0_liesAsNow_12 rfl (lv_at hl 2 rfl) ?_
      refine lv_aload_n X.hx X.hb dX0_liesAsNow_13 rfl (lv_at hl 1 rfl) ?_
      refine r_getNP X h (ci := 1) (k := 0) (C := RX1) (T := TX1) (N := 1) rfl in_X1 (by decide) 8 rfl rfl dX0_liesAsNow_14 hf (fun i6 hf => ?_)
      refine lv_iload_n X.hx X.hb dX0_liesAsNow_17 rfl (lv_at hl 3 rfl) ?_
      refine r_iald X h dX0_liesAsNow_18 hf (fun x7 hf => ?_)
      refine lv_aload_n X.hx X.hb dX0_liesAsNow_19 rfl (lv_at hl 0 rfl) ?_
      refine r_getP X h (ci := 0) (k := 10) (C := RX0) (T := TX0) (N := 36) rfl in_X0 (by decide) q152 rfl dX0_liesAsNow_20 hf (fun i8 hf => ?_)
      refine r_getNP X h (ci := 1) (k := 0) (C := RX1) (T := TX1) (N := 1) rfl in_X1 (by decide) 8 rfl rfl dX0_liesAsNow_23 hf (fun i9 hf => ?_)
      refine lv_iload_n X.hx X.hb dX0_liesAsNow_26 rfl (lv_at hl 3 rfl) ?_
      refine r_iald X h dX0_liesAsNow_27 hf (fun x10 hf => ?_)
      refine r_jn hf (fun j13 ej13 hf => ?_)
      have hj13 : ∀ (x11 : Int32) (μ12 : gM) (H : Heap) (locs : List Loc) (ls : Array Slot), j13 x11 μ12 = some r → gWd Γ A nz ad μ12 s.heap H locs → lv_has ls 4 [(0, .ref (ad b0)), (1, .ref (ad b1)), (3, .int x2)] → W p l e ({ frames := 0, cells := 0, slots := 0, locals := 0 } : Room) s m args below meth c H locs 0 0 (MQ below (gQ0 Γ ad nz r A) args s 0 0 A) (F0 m 36 ls [.int x11, .int x1]) := by
        intro x11 μ12 H locs ls hf h hl
        rw [ej13] at hf
        refine lv_iand X.hx X.hb dX0_liesAsNow_36 ?_
        refine r_nmI hf (fun x14 hf => ?_)
        refine lv_istore_n (lv' := [(2, .int x14), (0, .ref (ad b0)), (1, .ref (ad b1)), (3, .int x2)]) X.hx X.hb dX0_liesAsNow_37 rfl hl (by decide) rfl (fun ls hl => ?_)
        refine r_nmk hf (fun x15 ex hf => ?_)
        refine lv_iinc (v := x15) (lv' := [(3, .int x15), (2, .int x14), (0, .ref (ad b0)), (1, .ref (ad b1))]) X.hx X.hb dX0_liesAsNow_38 hl (k := 3) rfl (by rw [ex]; rfl) (by decide) rfl (fun ls hl => ?_)
        clear ex
        refine lv_goto (tgt := 4) X.hx X.hb dX0_liesAsNow_41 (by decide) ?_
        exact ih _ _ _ _ _ _ hf h (lv_sub hl [2, 3, 1, 0] rfl)
      clear ej13
      refine lv_icmp_ne (tgt := 35) X.hx X.hb dX0_liesAsNow_28 (by decide) (fun hc => ?_) (fun hc => ?_)
      · replace hf := gif_f hf hc
        clear hc
        refine lv_iconst (v := 0) X.hx X.hb dX0_liesAsNow_35 (by decide) ?_
        exact hj13 _ _ _ _ _ hf h (lv_sub hl [0, 1, 3] rfl)
      · replace hf := gif_t hf hc
        clear hc
        refine lv_iconst (v := 1) X.hx X.hb dX0_liesAsNow_31 (by decide) ?_
        refine lv_goto (tgt := 36) X.hx X.hb dX0_liesAsNow_32 (by decide) ?_
        exact hj13 _ _ _ _ _ hf h (lv_sub hl [0, 1, 3] rfl)
def fX0_liesAsNow (μ0 : gM) (b0 : Nat) (b1 : Nat) : gR := fX0_liesAsNow_L4 b0 b1 10000 1 0 μ0
set_option maxHeartbeats 4000000 in
theorem wX0_liesAsNow (l : Launch) (Γ : gG) (ad : Nat → Nat) (μ0 : gM) (b0 : Nat) (b1 : Nat) (r : Option Value × gM) (hf : fX0_liesAsNow μ0 b0 b1 = some r) : gMt0 l Γ yX0_liesAsNow (ws_ yX0_liesAsNow cX0_liesAsNow 4 (some .boolean)) ({ frames := 0, cells := 0, slots := 0, locals := 0 } : Room) 0 0 ad μ0 [.ref (ad b0), .ref (ad b1)] r := by
  intro sz
  refine g_start (maxL := 4) (ret := (some .boolean)) (by decide) rfl g_all (Nat.le_of_ble_eq_true rfl) ?_
  intro p e s m below meth c ls hr hlk hnm X h hl
  generalize gA ad μ0 sz = A at X h ⊢
  generalize ([.ref (ad b0), .ref (ad b1)] : List Value).toArray = args at X ⊢
  have X : gX p m c cX0_liesAsNow 4 s args "SandPiano" Γ A := X
  have hl : lv_has ls 4 [(0, .ref (ad b0)), (1, .ref (ad b1))] := hl
  show W p l e ({ frames := 0, cells := 0, slots := 0, locals := 0 } : Room) s m args below meth c s.heap [] 0 0 (MQ below (gQ0 Γ ad μ0.1 r A) args s 0 0 A) (F0 m 0 ls [])
  unfold fX0_liesAsNow at hf
  refine lv_iconst (v := 1) X.hx X.hb dX0_liesAsNow_0 (by decide) ?_
  refine lv_istore_n (lv' := [(2, .int 1), (0, .ref (ad b0)), (1, .ref (ad b1))]) X.hx X.hb dX0_liesAsNow_1 rfl hl (by decide) rfl (fun ls hl => ?_)
  refine lv_iconst (v := 0) X.hx X.hb dX0_liesAsNow_2 (by decide) ?_
  refine lv_istore_n (lv' := [(3, .int 0), (2, .int 1), (0, .ref (ad b0)), (1, .ref (ad b1))]) X.hx X.hb dX0_liesAsNow_3 rfl hl (by decide) rfl (fun ls hl => ?_)
  refine wX0_liesAsNow_L4 l b0 b1 X hr hlk 10000 _ _ _ _ _ _ hf h (lv_sub hl [2, 3, 1, 0] rfl)
/-! X3_bears -/
def fX3_bears (μ0 : gM) (b0 : Nat) : gR := gI (gkld μ0 b0 1) fun x1 => some (some (.int x1), μ0)
set_option maxHeartbeats 4000000 in
theorem wX3_bears (l : Launch) (Γ : gG) (ad : Nat → Nat) (μ0 : gM) (b0 : Nat) (r : Option Value × gM) (hf : fX3_bears μ0 b0 = some r) : gMt0 l Γ yX3_bears (ws_ yX3_bears cX3_bears 1 (some .int)) ({ frames := 0, cells := 0, slots := 0, locals := 0 } : Room) 0 0 ad μ0 [.ref (ad b0)] r := by
  intro sz
  refine g_start (maxL := 1) (ret := (some .int)) (by decide) rfl g_all (Nat.le_of_ble_eq_true rfl) ?_
  intro p e s m below meth c ls hr hlk hnm X h hl
  generalize gA ad μ0 sz = A at X h ⊢
  generalize ([.ref (ad b0)] : List Value).toArray = args at X ⊢
  have X : gX p m c cX3_bears 1 s args "SandPiano$Key" Γ A := X
  have hl : lv_has ls 1 [(0, .ref (ad b0))] := hl
  show W p l e ({ frames := 0, cells := 0, slots := 0, locals := 0 } : Room) s m args below meth c s.heap [] 0 0 (MQ below (gQ0 Γ ad μ0.1 r A) args s 0 0 A) (F0 m 0 ls [])
  unfold fX3_bears at hf
  refine lv_aload_n X.hx X.hb dX3_bears_0 rfl (lv_at hl 0 rfl) ?_
  refine r_getK X h (k := 1) (by decide) q490 rfl dX3_bears_1 hf (fun x1 hf => ?_)
  exact r_ri X h hr hlk (Nat.le_of_ble_eq_true rfl) (Nat.le_of_ble_eq_true rfl) dX3_bears_4 hf
/-! X8_bears -/
def fX8_bears (μ0 : gM) (b0 : Nat) : gR := some (some (.int 2147483647), μ0)
set_option maxHeartbeats 4000000 in
theorem wX8_bears (l : Launch) (Γ : gG) (ad : Nat → Nat) (μ0 : gM) (b0 : Nat) (r : Option Value × gM) (hf : fX8_bears μ0 b0 = some r) : gMt0 l Γ yX8_bears (ws_ yX8_bears cX8_bears 1 (some .int)) ({ frames := 0, cells := 0, slots := 0, locals := 0 } : Room) 0 0 ad μ0 [.ref (ad b0)] r := by
  intro sz
  refine g_start (maxL := 1) (ret := (some .int)) (by decide) rfl g_all (Nat.le_of_ble_eq_true rfl) ?_
  intro p e s m below meth c ls hr hlk hnm X h hl
  generalize gA ad μ0 sz = A at X h ⊢
  generalize ([.ref (ad b0)] : List Value).toArray = args at X ⊢
  have X : gX p m c cX8_bears 1 s args "SandPiano$Ring" Γ A := X
  have hl : lv_has ls 1 [(0, .ref (ad b0))] := hl
  show W p l e ({ frames := 0, cells := 0, slots := 0, locals := 0 } : Room) s m args below meth c s.heap [] 0 0 (MQ below (gQ0 Γ ad μ0.1 r A) args s 0 0 A) (F0 m 0 ls [])
  unfold fX8_bears at hf
  refine lv_ldc (v := 2147483647) X.hx X.hb X.hown (X.hts _ q617) dX8_bears_0 ?_
  exact r_ri X h hr hlk (Nat.le_of_ble_eq_true rfl) (Nat.le_of_ble_eq_true rfl) dX8_bears_2 hf
/-! X5_bears -/
def fX5_bears (μ0 : gM) (b0 : Nat) : gR := gik μ0 b0 <| cI (fX3_bears μ0 b0) fun x1 μ2 => some (some (.int (x1 + 2)), μ2)
set_option maxHeartbeats 4000000 in
theorem wX5_bears (l : Launch) (Γ : gG) (ad : Nat → Nat) (μ0 : gM) (b0 : Nat) (r : Option Value × gM) (hf : fX5_bears μ0 b0 = some r) : gMt0 l Γ yX5_bears (ws_ yX5_bears cX5_bears 1 (some .int)) ({ frames := 1, cells := 0, slots := 0, locals := 20 } : Room) 0 0 ad μ0 [.ref (ad b0)] r := by
  intro sz
  refine g_start (maxL := 1) (ret := (some .int)) (by decide) rfl g_all (Nat.le_of_ble_eq_true rfl) ?_
  intro p e s m below meth c ls hr hlk hnm X h hl
  generalize gA ad μ0 sz = A at X h ⊢
  generalize ([.ref (ad b0)] : List Value).toArray = args at X ⊢
  have X : gX p m c cX5_bears 1 s args "SandPiano$Shell" Γ A := X
  have hl : lv_has ls 1 [(0, .ref (ad b0))] := hl
  show W p l e ({ frames := 1, cells := 0, slots := 0, locals := 20 } : Room) s m args below meth c s.heap [] 0 0 (MQ below (gQ0 Γ ad μ0.1 r A) args s 0 0 A) (F0 m 0 ls [])
  unfold fX5_bears at hf
  refine lv_aload_n X.hx X.hb dX5_bears_0 rfl (lv_at hl 0 rfl) ?_
  refine r_cSU (As := []) (rest := []) X h hf (fun res hres => wX3_bears l Γ ad _ b0 res hres) (va_cwSU 0 X.hts (lw_SU q621 q610 q508 q608 q95 q622) rfl rfl rfl (by decide +kernel) ⟨Nat.le_of_ble_eq_true rfl, Nat.le_of_ble_eq_true rfl⟩) rfl ⟨hl.1, Nat.le_of_ble_eq_true rfl, Nat.le_of_ble_eq_true rfl, Nat.le_of_ble_eq_true rfl⟩ rfl dX5_bears_1 (fun x1 μ2 H locs hf h => ?_)
  refine lv_iconst (v := 2) X.hx X.hb dX5_bears_4 (by decide) ?_
  refine lv_iadd X.hx X.hb dX5_bears_5 ?_
  exact r_ri X h hr hlk (Nat.le_of_ble_eq_true rfl) (Nat.le_of_ble_eq_true rfl) dX5_bears_6 hf
/-! X3_plays -/
def vX3_bears (μ : gM) (i : Nat) : gR := gkc μ i fun c => if c = 3 then fX3_bears μ i else if c = 4 then fX3_bears μ i else if c = 5 then fX5_bears μ i else if c = 6 then fX3_bears μ i else if c = 7 then fX3_bears μ i else if c = 8 then fX8_bears μ i else none
set_option maxHeartbeats 4000000 in
theorem wvX3_bears {p : Program} {l : Launch} {e : Env} {R : Room} {s : State} {m : MethodId} {args : Array Value} {below : List Frame} {meth : Method} {c : Code} {H : Heap} {locs : List Loc} {cells slots : Nat} {Q : State → Prop} {cc : ByteArray} {pc nL : Nat} {ls : Array Slot} {rest st0 : List Value} {own : String} {Γ : gG} {A : Nat → Prop} {nz : Nat} {ad : Nat → Nat} {μ : gM} {r : Option Value × gM} {i index : Nat} {kt : Int32 → gM → gR} (X : gX p m c cc nL s args own Γ A) (h : gWd Γ A nz ad μ s.heap H locs) (hl : Cond.methodLink own index ⟨"SandPiano$Key", "bears", "()I"⟩ ∈ lw_all) (hF : 2 ≤ R.frames) (hL : 40 ≤ R.locals) (hg : gSt m ls nL R cells slots 0 0 rest) (hst : st0 = ([] : List Value).reverse ++ .ref (ad i) :: rest) (d : decode cc pc = .ok (.invokevirtual index, 3)) (hf : cI (vX3_bears μ i) kt = some r)
    (kk : ∀ (x : Int32) (μ1 : gM) (H1 : Heap) (locs1 : List Loc), kt x μ1 = some r → gWd Γ A nz ad μ1 s.heap H1 locs1 → W p l e R s m args below meth c H1 locs1 cells slots Q (F0 m (pc + 3) ls (.int x :: rest))) : W p l e R s m args below meth c H locs cells slots Q (F0 m pc ls st0) := by
  obtain ⟨x, μ1, ho, hf⟩ := cI_some hf
  obtain ⟨ci, fs, he, ho⟩ := gkc_some ho
  by_cases hc3 : ci = 3
  · subst hc3
    rw [if_pos rfl] at ho
    exact r_back0 X h (g_runU (As := []) X h he (wX3_bears l Γ ad μ i _ ho _) (T := TX3) rfl (va_cwU (owner := "SandPiano$Key") (x := ⟨"SandPiano$Key", "bears", "()I"⟩) 0 X.hts (lw_U hl q610 q609 q608 q95 q622) rfl rfl rfl rfl (by decide +kernel) ⟨Nat.le_trans (Nat.le_of_ble_eq_true rfl) hF, Nat.le_trans (Nat.le_of_ble_eq_true rfl) hL⟩) rfl hg hst d) (fun H1 locs1 h1 => kk x μ1 H1 locs1 hf h1)
  rw [if_neg hc3] at ho
  by_cases hc4 : ci = 4
  · subst hc4
    rw [if_pos rfl] at ho
    exact r_back0 X h (g_runU (As := []) X h he (wX3_bears l Γ ad μ i _ ho _) (T := TX4) rfl (va_cwU (owner := "SandPiano$Key") (x := ⟨"SandPiano$Key", "bears", "()I"⟩) 0 X.hts (lw_U hl q610 q611 q608 q95 q622) rfl rfl rfl rfl (by decide +kernel) ⟨Nat.le_trans (Nat.le_of_ble_eq_true rfl) hF, Nat.le_trans (Nat.le_of_ble_eq_true rfl) hL⟩) rfl hg hst d) (fun H1 locs1 h1 => kk x μ1 H1 locs1 hf h1)
  rw [if_neg hc4] at ho
  by_cases hc5 : ci = 5
  · subst hc5
    rw [if_pos rfl] at ho
    exact r_back0 X h (g_runU (As := []) X h he (wX5_bears l Γ ad μ i _ ho _) (T := TX5) rfl (va_cwO (owner := "SandPiano$Key") (x := ⟨"SandPiano$Key", "bears", "()I"⟩) 0 X.hts (lw_O hl q610 q608 q618 q619 q97 q620) rfl rfl rfl q622 (by decide +kernel) ⟨Nat.le_trans (Nat.le_of_ble_eq_true rfl) hF, Nat.le_trans (Nat.le_of_ble_eq_true rfl) hL⟩) rfl hg hst d) (fun H1 locs1 h1 => kk x μ1 H1 locs1 hf h1)
  rw [if_neg hc5] at ho
  by_cases hc6 : ci = 6
  · subst hc6
    rw [if_pos rfl] at ho
    exact r_back0 X h (g_runU (As := []) X h he (wX3_bears l Γ ad μ i _ ho _) (T := TX6) rfl (va_cwU (owner := "SandPiano$Key") (x := ⟨"SandPiano$Key", "bears", "()I"⟩) 0 X.hts (lw_U hl q610 q612 q608 q95 q622) rfl rfl rfl rfl (by decide +kernel) ⟨Nat.le_trans (Nat.le_of_ble_eq_true rfl) hF, Nat.le_trans (Nat.le_of_ble_eq_true rfl) hL⟩) rfl hg hst d) (fun H1 locs1 h1 => kk x μ1 H1 locs1 hf h1)
  rw [if_neg hc6] at ho
  by_cases hc7 : ci = 7
  · subst hc7
    rw [if_pos rfl] at ho
    exact r_back0 X h (g_runU (As := []) X h he (wX3_bears l Γ ad μ i _ ho _) (T := TX7) rfl (va_cwU (owner := "SandPiano$Key") (x := ⟨"SandPiano$Key", "bears", "()I"⟩) 0 X.hts (lw_U hl q610 q613 q608 q95 q622) rfl rfl rfl rfl (by decide +kernel) ⟨Nat.le_trans (Nat.le_of_ble_eq_true rfl) hF, Nat.le_trans (Nat.le_of_ble_eq_true rfl) hL⟩) rfl hg hst d) (fun H1 locs1 h1 => kk x μ1 H1 locs1 hf h1)
  rw [if_neg hc7] at ho
  by_cases hc8 : ci = 8
  · subst hc8
    rw [if_pos rfl] at ho
    exact r_back0 X h (g_runU (As := []) X h he (wX8_bears l Γ ad μ i _ ho _) (T := TX8) rfl (va_cwO (owner := "SandPiano$Key") (x := ⟨"SandPiano$Key", "bears", "()I"⟩) 0 X.hts (lw_O hl q610 q608 q614 q615 q100 q616) rfl rfl rfl q622 (by decide +kernel) ⟨Nat.le_trans (Nat.le_of_ble_eq_true rfl) hF, Nat.le_trans (Nat.le_of_ble_eq_true rfl) hL⟩) rfl hg hst d) (fun H1 locs1 h1 => kk x μ1 H1 locs1 hf h1)
  rw [if_neg hc8] at ho
  cases ho
def fX3_plays (μ0 : gM) (b0 : Nat) (b1 : Nat) : gR := gP (gfld μ0 b1 1 0) fun i1 => gI (gkld μ0 b0 0) fun x2 => gaI μ0 0 i1 x2 fun x3 => cI (vX3_bears μ0 b0) fun x4 μ5 => if x4 < x3 then (rZ 0 μ5) else (rZ 1 μ5)
set_option maxHeartbeats 4000000 in
theorem wX3_plays (l : Launch) (Γ : gG) (ad : Nat → Nat) (μ0 : gM) (b0 : Nat) (b1 : Nat) (r : Option Value × gM) (hf : fX3_plays μ0 b0 b1 = some r) : gMt0 l Γ yX3_plays (ws_ yX3_plays cX3_plays 2 (some .boolean)) ({ frames := 2, cells := 0, slots := 0, locals := 40 } : Room) 0 0 ad μ0 [.ref (ad b0), .ref (ad b1)] r := by
  intro sz
  refine g_start (maxL := 2) (ret := (some .boolean)) (by decide) rfl g_all (Nat.le_of_ble_eq_true rfl) ?_
  intro p e s m below meth c ls hr hlk hnm X h hl
  generalize gA ad μ0 sz = A at X h ⊢
  generalize ([.ref (ad b0), .ref (ad b1)] : List Value).toArray = args at X ⊢
  have X : gX p m c cX3_plays 2 s args "SandPiano$Key" Γ A := X
  have hl : lv_has ls 2 [(0, .ref (ad b0)), (1, .ref (ad b1))] := hl
  show W p l e ({ frames := 2, cells := 0, slots := 0, locals := 40 } : Room) s m args below meth c s.heap [] 0 0 (MQ below (gQ0 Γ ad μ0.1 r A) args s 0 0 A) (F0 m 0 ls [])
  unfold fX3_plays at hf
  refine lv_aload_n X.hx X.hb dX3_plays_0 rfl (lv_at hl 1 rfl) ?_
  refine r_getNP X h (ci := 1) (k := 0) (C := RX1) (T := TX1) (N := 1) rfl in_X1 (by decide) 4 rfl rfl dX3_plays_1 hf (fun i1 hf => ?_)
  refine lv_aload_n X.hx X.hb dX3_plays_4 rfl (lv_at hl 0 rfl) ?_
  refine r_getK X h (k := 0) (by decide) q489 rfl dX3_plays_5 hf (fun x2 hf => ?_)
  refine r_iald X h dX3_plays_8 hf (fun x3 hf => ?_)
  refine lv_aload_n X.hx X.hb dX3_plays_9 rfl (lv_at hl 0 rfl) ?_
  refine wvX3_bears X h q607 (Nat.le_of_ble_eq_true rfl) (Nat.le_of_ble_eq_true rfl) (rest := [.int x3]) ⟨hl.1, Nat.le_of_ble_eq_true rfl, Nat.le_of_ble_eq_true rfl, Nat.le_of_ble_eq_true rfl⟩ rfl dX3_plays_10 hf (fun x4 μ5 H locs hf h => ?_)
  refine lv_icmp_gt (tgt := 20) X.hx X.hb dX3_plays_13 (by decide) (fun hc => ?_) (fun hc => ?_)
  · replace hf := gif_t hf hc
    clear hc
    refine lv_iconst (v := 0) X.hx X.hb dX3_plays_20 (by decide) ?_
    exact r_rz X h hr hlk (Nat.le_of_ble_eq_true rfl) (Nat.le_of_ble_eq_true rfl) dX3_plays_21 hf
  · replace hf := gif_f hf hc
    clear hc
    refine lv_iconst (v := 1) X.hx X.hb dX3_plays_16 (by decide) ?_
    refine lv_goto (tgt := 21) X.hx X.hb dX3_plays_17 (by decide) ?_
    exact r_rz X h hr hlk (Nat.le_of_ble_eq_true rfl) (Nat.le_of_ble_eq_true rfl) dX3_plays_21 hf
/-! X0_backOn -/
def vX3_plays (μ : gM) (i : Nat) (b1 : Nat) : gR := gkc μ i fun c => if c = 3 then fX3_plays μ i b1 else if c = 4 then fX3_plays μ i b1 else if c = 5 then fX3_plays μ i b1 else if c = 6 then fX3_plays μ i b1 else if c = 7 then fX3_plays μ i b1 else if c = 8 then fX3_plays μ i b1 else none
set_option maxHeartbeats 4000000 in
theorem wvX3_plays {p : Program} {l : Launch} {e : Env} {R : Room} {s : State} {m : MethodId} {args : Array Value} {below : List Frame} {meth : Method} {c : Code} {H : Heap} {locs : List Loc} {cells slots : Nat} {Q : State → Prop} {cc : ByteArray} {pc nL : Nat} {ls : Array Slot} {rest st0 : List Value} {own : String} {Γ : gG} {A : Nat → Prop} {nz : Nat} {ad : Nat → Nat} {μ : gM} {r : Option Value × gM} {i index : Nat} {b1 : Nat} {kt : Int32 → gM → gR} (X : gX p m c cc nL s args own Γ A) (h : gWd Γ A nz ad μ s.heap H locs) (hl : Cond.methodLink own index ⟨"SandPiano$Key", "plays", "(LSandPiano$Sands;)Z"⟩ ∈ lw_all) (hF : 3 ≤ R.frames) (hL : 61 ≤ R.locals) (hg : gSt m ls nL R cells slots 0 0 rest) (hst : st0 = ([.ref (ad b1)] : List Value).reverse ++ .ref (ad i) :: rest) (d : decode cc pc = .ok (.invokevirtual index, 3)) (hf : cI (vX3_plays μ i b1) kt = some r)
    (kk : ∀ (x : Int32) (μ1 : gM) (H1 : Heap) (locs1 : List Loc), kt x μ1 = some r → gWd Γ A nz ad μ1 s.heap H1 locs1 → W p l e R s m args below meth c H1 locs1 cells slots Q (F0 m (pc + 3) ls (.int x :: rest))) : W p l e R s m args below meth c H locs cells slots Q (F0 m pc ls st0) := by
  obtain ⟨x, μ1, ho, hf⟩ := cI_some hf
  obtain ⟨ci, fs, he, ho⟩ := gkc_some ho
  by_cases hc3 : ci = 3
  · subst hc3
    rw [if_pos rfl] at ho
    exact r_back0 X h (g_runU (As := [.ref (ad b1)]) X h he (wX3_plays l Γ ad μ i b1 _ ho _) (T := TX3) rfl (va_cwU (owner := "SandPiano$Key") (x := ⟨"SandPiano$Key", "plays", "(LSandPiano$Sands;)Z"⟩) 1 X.hts (lw_U hl q600 q599 q598 q95 q606) rfl rfl rfl rfl (by decide +kernel) ⟨Nat.le_trans (Nat.le_of_ble_eq_true rfl) hF, Nat.le_trans (Nat.le_of_ble_eq_true rfl) hL⟩) rfl hg hst d) (fun H1 locs1 h1 => kk x μ1 H1 locs1 hf h1)
  rw [if_neg hc3] at ho
  by_cases hc4 : ci = 4
  · subst hc4
    rw [if_pos rfl] at ho
    exact r_back0 X h (g_runU (As := [.ref (ad b1)]) X h he (wX3_plays l Γ ad μ i b1 _ ho _) (T := TX4) rfl (va_cwU (owner := "SandPiano$Key") (x := ⟨"SandPiano$Key", "plays", "(LSandPiano$Sands;)Z"⟩) 1 X.hts (lw_U hl q600 q601 q598 q95 q606) rfl rfl rfl rfl (by decide +kernel) ⟨Nat.le_trans (Nat.le_of_ble_eq_true rfl) hF, Nat.le_trans (Nat.le_of_ble_eq_true rfl) hL⟩) rfl hg hst d) (fun H1 locs1 h1 => kk x μ1 H1 locs1 hf h1)
  rw [if_neg hc4] at ho
  by_cases hc5 : ci = 5
  · subst hc5
    rw [if_pos rfl] at ho
    exact r_back0 X h (g_runU (As := [.ref (ad b1)]) X h he (wX3_plays l Γ ad μ i b1 _ ho _) (T := TX5) rfl (va_cwU (owner := "SandPiano$Key") (x := ⟨"SandPiano$Key", "plays", "(LSandPiano$Sands;)Z"⟩) 1 X.hts (lw_U hl q600 q605 q598 q95 q606) rfl rfl rfl rfl (by decide +kernel) ⟨Nat.le_trans (Nat.le_of_ble_eq_true rfl) hF, Nat.le_trans (Nat.le_of_ble_eq_true rfl) hL⟩) rfl hg hst d) (fun H1 locs1 h1 => kk x μ1 H1 locs1 hf h1)
  rw [if_neg hc5] at ho
  by_cases hc6 : ci = 6
  · subst hc6
    rw [if_pos rfl] at ho
    exact r_back0 X h (g_runU (As := [.ref (ad b1)]) X h he (wX3_plays l Γ ad μ i b1 _ ho _) (T := TX6) rfl (va_cwU (owner := "SandPiano$Key") (x := ⟨"SandPiano$Key", "plays", "(LSandPiano$Sands;)Z"⟩) 1 X.hts (lw_U hl q600 q602 q598 q95 q606) rfl rfl rfl rfl (by decide +kernel) ⟨Nat.le_trans (Nat.le_of_ble_eq_true rfl) hF, Nat.le_trans (Nat.le_of_ble_eq_true rfl) hL⟩) rfl hg hst d) (fun H1 locs1 h1 => kk x μ1 H1 locs1 hf h1)
  rw [if_neg hc6] at ho
  by_cases hc7 : ci = 7
  · subst hc7
    rw [if_pos rfl] at ho
    exact r_back0 X h (g_runU (As := [.ref (ad b1)]) X h he (wX3_plays l Γ ad μ i b1 _ ho _) (T := TX7) rfl (va_cwU (owner := "SandPiano$Key") (x := ⟨"SandPiano$Key", "plays", "(LSandPiano$Sands;)Z"⟩) 1 X.hts (lw_U hl q600 q603 q598 q95 q606) rfl rfl rfl rfl (by decide +kernel) ⟨Nat.le_trans (Nat.le_of_ble_eq_true rfl) hF, Nat.le_trans (Nat.le_of_ble_eq_true rfl) hL⟩) rfl hg hst d) (fun H1 locs1 h1 => kk x μ1 H1 locs1 hf h1)
  rw [if_neg hc7] at ho
  by_cases hc8 : ci = 8
  · subst hc8
    rw [if_pos rfl] at ho
    exact r_back0 X h (g_runU (As := [.ref (ad b1)]) X h he (wX3_plays l Γ ad μ i b1 _ ho _) (T := TX8) rfl (va_cwU (owner := "SandPiano$Key") (x := ⟨"SandPiano$Key", "plays", "(LSandPiano$Sands;)Z"⟩) 1 X.hts (lw_U hl q600 q604 q598 q95 q606) rfl rfl rfl rfl (by decide +kernel) ⟨Nat.le_trans (Nat.le_of_ble_eq_true rfl) hF, Nat.le_trans (Nat.le_of_ble_eq_true rfl) hL⟩) rfl hg hst d) (fun H1 locs1 h1 => kk x μ1 H1 locs1 hf h1)
  rw [if_neg hc8] at ho
  cases ho
def fX0_backOn_L52 (rec : gM → Nat → Int32 → Int32 → gR) (b0 : Nat) (a1 : Int32) (a2 : Int32) : Nat → Int32 → gM → gR
  | 0, _, _ => none
  | n3 + 1, x1, μ2 => gI (gfld μ2 b0 0 7) fun x4 => if x4 ≤ x1 then (some (none, μ2)) else (gP (gfld μ2 b0 0 9) fun i5 => gaQ μ2 5 i5 x1 fun o6 => gnn o6 fun i7 => gP (gfld μ2 b0 0 25) fun i8 => gaQ μ2 7 i8 a1 fun o9 => gnn o9 fun i10 => cI (vX3_plays μ2 i7 i10) fun x11 μ12 => gjn (fun  (μ13 : gM) => gnm (x1 + 1) fun x15 => fX0_backOn_L52 rec b0 a1 a2 n3 x15 μ13) fun j14 => if x11 = 0 then (j14 μ12) else (gis μ12 b0 0 <| cV (fX0_goDeep μ12 b0 a1 x1) fun μ16 => gis μ16 b0 0 <| cV (rec μ16 b0 (a1 + 1) a2) fun μ17 => j14 μ17))
set_option maxHeartbeats 4000000 in
theorem wX0_backOn_L52 {p : Program} {e : Env} {s : State} {m : MethodId} {args : Array Value} {below : List Frame} {meth : Method} {c : Code} {Γ : gG} {A : Nat → Prop} {nz : Nat} {ad : Nat → Nat} {r : Option Value × gM} (l : Launch) (dd : Nat) (rec : gM → Nat → Int32 → Int32 → gR) (b0 : Nat) (a1 : Int32) (a2 : Int32) (X : gX p m c cX0_backOn 4 s args "SandPiano" Γ A) (hr : meth.sig.returnType = none) (hlk : meth.locks = false) (hrec : ∀ (ad : Nat → Nat) (μ : gM) (b0 : Nat) (a1 : Int32) (a2 : Int32) (r : Option Value × gM), rec μ b0 a1 a2 = some r → gMt0 l Γ yX0_backOn (ws_ yX0_backOn cX0_backOn 4 none) ({ frames := 5 + dd, cells := 0, slots := 0, locals := 111 + dd * 23 } : Room) 0 0 ad μ [.ref (ad b0), .int a1, .int a2] r) : ∀ (n3 : Nat) (x1 : Int32) (μ2 : gM) (H : Heap) (locs : List Loc) (ls : Array Slot), fX0_backOn_L52 rec b0 a1 a2 n3 x1 μ2 = some r → gWd Γ A nz ad μ2 s.heap H locs → lv_has ls 4 [(0, .ref (ad b0)), (1, .int a1), (2, .int a2), (3, .int x1)] → W p l e ({ frames := 5 + (dd + 1), cells := 0, slots := 0, locals := 111 + (dd + 1) * 23 } : Room) s m args below meth c H locs 0 0 (MQ below (gQ0 Γ ad nz r A) args s 0 0 A) (F0 m 52 ls []) := by
  intro n3
  induction n3 with
  | zero =>
    intro x1 μ2 H locs ls hf h hl
    have hf : (none : gR) = some r := hf
    cases hf
  | succ n3 ih =>
    intro x1 μ2 H locs ls hf h hl
    rw [fX0_backOn_L52] at hf
    refine lv_iload_n X.hx X.hb dX0_backOn_52 rfl (lv_at hl 3 rfl) ?_
    refine lv_aload_n X.hx X.hb dX0_backOn_53 rfl (lv_at hl 0 rfl) ?_
    refine r_getI X h (ci := 0) (k := 7) (C := RX0) (T := TX0) (N := 36) rfl in_X0 (by decide) q149 rfl dX0_backOn_54 hf (fun x4 hf => ?_)
    refine lv_icmp_ge (tgt := 98) X.hx X.hb dX0_backOn_57 (by decide) (fun hc => ?_) (fun hc => ?_)
    · replace hf := gif_t hf hc
      clear hc
      exact r_rv X h hr hlk ((by first | exact Nat.le_of_ble_eq_true rfl | omega | (dsimp only; omega))) ((by first | exact Nat.le_of_ble_eq_true rfl | omega | (dsimp only; omega))) dX0_backOn_98 hf
    · replace hf := gif_f hf hc
      clear hc
      refine lv_aload_n X.hx X.hb dX0_backOn_60 rfl (lv_at hl 0 rfl) ?_
      refine r_getP X h (ci := 0) (k := 9) (C := RX0) (T := TX0) (N := 36) rfl in_X0 (by decide) q151 rfl dX0_backOn_61 hf (fun i5 hf => ?_)
      refine lv_iload_n X.hx X.hb dX0_backOn_64 rfl (lv_at hl 3 rfl) ?_
      refine r_aald X h (t := 5) rfl rfl dX0_backOn_65 hf (fun o6 hf => ?_)
      refine r_nn hf (fun i7 hf => ?_)
      refine lv_aload_n X.hx X.hb dX0_backOn_66 rfl (lv_at hl 0 rfl) ?_
      refine r_getP X h (ci := 0) (k := 25) (C := RX0) (T := TX0) (N := 36) rfl in_X0 (by decide) q167 rfl dX0_backOn_67 hf (fun i8 hf => ?_)
      refine lv_iload_n X.hx X.hb dX0_backOn_70 rfl (lv_at hl 1 rfl) ?_
      refine r_aald X h (t := 7) rfl rfl dX0_backOn_71 hf (fun o9 hf => ?_)
      refine r_nn hf (fun i10 hf => ?_)
      refine wvX3_plays X h q597 ((by first | exact Nat.le_of_ble_eq_true rfl | omega | (dsimp only; omega))) ((by first | exact Nat.le_of_ble_eq_true rfl | omega | (dsimp only; omega))) (rest := []) ⟨hl.1, Nat.le_of_ble_eq_true rfl, (by first | exact Nat.le_of_ble_eq_true rfl | omega | (dsimp only; omega)), (by first | exact Nat.le_of_ble_eq_true rfl | omega | (dsimp only; omega))⟩ rfl dX0_backOn_72 hf (fun x11 μ12 H locs hf h => ?_)
      refine r_jn hf (fun j14 ej14 hf => ?_)
      have hj14 : ∀  (μ13 : gM) (H : Heap) (locs : List Loc) (ls : Array Slot), j14  μ13 = some r → gWd Γ A nz ad μ13 s.heap H locs → lv_has ls 4 [(0, .ref (ad b0)), (1, .int a1), (2, .int a2), (3, .int x1)] → W p l e ({ frames := 5 + (dd + 1), cells := 0, slots := 0, locals := 111 + (dd + 1) * 23 } : Room) s m args below meth c H locs 0 0 (MQ below (gQ0 Γ ad nz r A) args s 0 0 A) (F0 m 92 ls []) := by
        intro μ13 H locs ls hf h hl
        rw [ej14] at hf
        refine r_nmk hf (fun x15 ex hf => ?_)
        refine lv_iinc (v := x15) (lv' := [(3, .int x15), (0, .ref (ad b0)), (1, .int a1), (2, .int a2)]) X.hx X.hb dX0_backOn_92 hl (k := 3) rfl (by rw [ex]; rfl) (by decide) rfl (fun ls hl => ?_)
        clear ex
        refine lv_goto (tgt := 52) X.hx X.hb dX0_backOn_95 (by decide) ?_
        exact ih _ _ _ _ _ hf h (lv_sub hl [1, 2, 3, 0] rfl)
      clear ej14
      refine lv_if_eq (tgt := 92) X.hx X.hb dX0_backOn_75 (by decide) (fun hc => ?_) (fun hc => ?_)
      · replace hf := gif_t hf hc
        clear hc
        exact hj14 _ _ _ _ hf h (lv_sub hl [0, 1, 2, 3] rfl)
      · replace hf := gif_f hf hc
        clear hc
        refine lv_aload_n X.hx X.hb dX0_backOn_78 rfl (lv_at hl 0 rfl) ?_
        refine lv_iload_n X.hx X.hb dX0_backOn_79 rfl (lv_at hl 1 rfl) ?_
        refine lv_iload_n X.hx X.hb dX0_backOn_80 rfl (lv_at hl 3 rfl) ?_
        refine r_cVV (As := [.int a1, .int x1]) (rest := []) (C := RX0) (T := TX0) (N := 36) X h hf (fun res hres => wX0_goDeep l Γ ad _ b0 a1 x1 res hres) rfl (cwV 2 X.hts (lw_V q888 q890 qs22 q82 q891) rfl rfl rfl (by decide +kernel) ⟨(by first | exact Nat.le_of_ble_eq_true rfl | omega | (dsimp only; omega)), (by first | exact Nat.le_of_ble_eq_true rfl | omega | (dsimp only; omega))⟩) rfl ⟨hl.1, Nat.le_of_ble_eq_true rfl, (by first | exact Nat.le_of_ble_eq_true rfl | omega | (dsimp only; omega)), (by first | exact Nat.le_of_ble_eq_true rfl | omega | (dsimp only; omega))⟩ rfl dX0_backOn_81 (fun μ16 H locs hf h => ?_)
        refine lv_aload_n X.hx X.hb dX0_backOn_84 rfl (lv_at hl 0 rfl) ?_
        refine lv_iload_n X.hx X.hb dX0_backOn_85 rfl (lv_at hl 1 rfl) ?_
        refine lv_iconst (v := 1) X.hx X.hb dX0_backOn_86 (by decide) ?_
        refine lv_iadd X.hx X.hb dX0_backOn_87 ?_
        refine lv_iload_n X.hx X.hb dX0_backOn_88 rfl (lv_at hl 2 rfl) ?_
        refine r_cVV (As := [.int (a1 + 1), .int a2]) (rest := []) (C := RX0) (T := TX0) (N := 36) X h hf (fun res hres => hrec ad _ b0 (a1 + 1) a2 res hres) rfl (cwV 2 X.hts (lw_V q916 q918 qs26 q82 q919) rfl rfl rfl (by decide +kernel) ⟨(by first | exact Nat.le_of_ble_eq_true rfl | omega | (dsimp only; omega)), (by first | exact Nat.le_of_ble_eq_true rfl | omega | (dsimp only; omega))⟩) rfl ⟨hl.1, Nat.le_of_ble_eq_true rfl, (by first | exact Nat.le_of_ble_eq_true rfl | omega | (dsimp only; omega)), (by first | exact Nat.le_of_ble_eq_true rfl | omega | (dsimp only; omega))⟩ rfl dX0_backOn_89 (fun μ17 H locs hf h => ?_)
        exact hj14 _ _ _ _ hf h (lv_sub hl [0, 1, 2, 3] rfl)
def fX0_backOn_B (rec : gM → Nat → Int32 → Int32 → gR) (μ0 : gM) (b0 : Nat) (a1 : Int32) (a2 : Int32) : gR := if a1 = a2 then (gP (gfld μ0 b0 0 25) fun i18 => gaQ μ0 7 i18 a1 fun o19 => gnn o19 fun i20 => gis μ0 b0 0 <| cI (fX0_liesAsNow μ0 b0 i20) fun x21 μ22 => if x21 = 0 then (some (none, μ22)) else (gI (gfld μ22 b0 0 33) fun x23 => gjn (fun  (μ24 : gM) => gI (gfld μ24 b0 0 33) fun x26 => gpf μ24 b0 0 33 (.int (x26 + 1)) fun μ27 => some (none, μ27)) fun j25 => if x23 = 0 then (gP (gfld μ22 b0 0 26) fun i28 => gP (gfld μ22 b0 0 27) fun i29 => gcp μ22 i28 0 i29 0 a1 fun μ30 => j25 μ30) else (j25 μ22))) else (fX0_backOn_L52 rec b0 a1 a2 10000 0 μ0)
set_option maxHeartbeats 4000000 in
theorem wX0_backOn_B (l : Launch) (Γ : gG) (dd : Nat) (rec : gM → Nat → Int32 → Int32 → gR) (hrec : ∀ (ad : Nat → Nat) (μ : gM) (b0 : Nat) (a1 : Int32) (a2 : Int32) (r : Option Value × gM), rec μ b0 a1 a2 = some r → gMt0 l Γ yX0_backOn (ws_ yX0_backOn cX0_backOn 4 none) ({ frames := 5 + dd, cells := 0, slots := 0, locals := 111 + dd * 23 } : Room) 0 0 ad μ [.ref (ad b0), .int a1, .int a2] r) (ad : Nat → Nat) (μ0 : gM) (b0 : Nat) (a1 : Int32) (a2 : Int32) (r : Option Value × gM) (hf : fX0_backOn_B rec μ0 b0 a1 a2 = some r) : gMt0 l Γ yX0_backOn (ws_ yX0_backOn cX0_backOn 4 none) ({ frames := 5 + (dd + 1), cells := 0, slots := 0, locals := 111 + (dd + 1) * 23 } : Room) 0 0 ad μ0 [.ref (ad b0), .int a1, .int a2] r := by
  intro sz
  refine g_start (maxL := 4) (ret := none) (by decide) rfl g_all (Nat.le_of_ble_eq_true rfl) ?_
  intro p e s m below meth c ls hr hlk hnm X h hl
  generalize gA ad μ0 sz = A at X h ⊢
  generalize ([.ref (ad b0), .int a1, .int a2] : List Value).toArray = args at X ⊢
  have X : gX p m c cX0_backOn 4 s args "SandPiano" Γ A := X
  have hl : lv_has ls 4 [(0, .ref (ad b0)), (1, .int a1), (2, .int a2)] := hl
  show W p l e ({ frames := 5 + (dd + 1), cells := 0, slots := 0, locals := 111 + (dd + 1) * 23 } : Room) s m args below meth c s.heap [] 0 0 (MQ below (gQ0 Γ ad μ0.1 r A) args s 0 0 A) (F0 m 0 ls [])
  unfold fX0_backOn_B at hf
  refine lv_iload_n X.hx X.hb dX0_backOn_0 rfl (lv_at hl 1 rfl) ?_
  refine lv_iload_n X.hx X.hb dX0_backOn_1 rfl (lv_at hl 2 rfl) ?_
  refine lv_icmp_ne (tgt := 50) X.hx X.hb dX0_backOn_2 (by decide) (fun hc => ?_) (fun hc => ?_)
  · replace hf := gif_f hf hc
    clear hc
    refine lv_iconst (v := 0) X.hx X.hb dX0_backOn_50 (by decide) ?_
    refine lv_istore_n (lv' := [(3, .int 0), (0, .ref (ad b0)), (1, .int a1), (2, .int a2)]) X.hx X.hb dX0_backOn_51 rfl hl (by decide) rfl (fun ls hl => ?_)
    refine wX0_backOn_L52 l _ rec b0 a1 a2 X hr hlk hrec 10000 _ _ _ _ _ hf h (lv_sub hl [1, 2, 3, 0] rfl)
  · replace hf := gif_t hf hc
    clear hc
    refine lv_aload_n X.hx X.hb dX0_backOn_5 rfl (lv_at hl 0 rfl) ?_
    refine lv_aload_n X.hx X.hb dX0_backOn_6 rfl (lv_at hl 0 rfl) ?_
    refine r_getP X h (ci := 0) (k := 25) (C := RX0) (T := TX0) (N := 36) rfl in_X0 (by decide) q167 rfl dX0_backOn_7 hf (fun i18 hf => ?_)
    refine lv_iload_n X.hx X.hb dX0_backOn_10 rfl (lv_at hl 1 rfl) ?_
    refine r_aald X h (t := 7) rfl rfl dX0_backOn_11 hf (fun o19 hf => ?_)
    refine r_nn hf (fun i20 hf => ?_)
    refine r_cVI (As := [.ref (ad i20)]) (rest := []) (C := RX0) (T := TX0) (N := 36) X h hf (fun res hres => wX0_liesAsNow l Γ ad _ b0 i20 res hres) rfl (cwV 1 X.hts (lw_V q920 q922 qs27 q82 q923) rfl rfl rfl (by decide +kernel) ⟨(by first | exact Nat.le_of_ble_eq_true rfl | omega | (dsimp only; omega)), (by first | exact Nat.le_of_ble_eq_true rfl | omega | (dsimp only; omega))⟩) rfl ⟨hl.1, Nat.le_of_ble_eq_true rfl, (by first | exact Nat.le_of_ble_eq_true rfl | omega | (dsimp only; omega)), (by first | exact Nat.le_of_ble_eq_true rfl | omega | (dsimp only; omega))⟩ rfl dX0_backOn_12 (fun x21 μ22 H locs hf h => ?_)
    refine lv_if_eq (tgt := 49) X.hx X.hb dX0_backOn_15 (by decide) (fun hc => ?_) (fun hc => ?_)
    · replace hf := gif_t hf hc
      clear hc
      exact r_rv X h hr hlk ((by first | exact Nat.le_of_ble_eq_true rfl | omega | (dsimp only; omega))) ((by first | exact Nat.le_of_ble_eq_true rfl | omega | (dsimp only; omega))) dX0_backOn_49 hf
    · replace hf := gif_f hf hc
      clear hc
      refine lv_aload_n X.hx X.hb dX0_backOn_18 rfl (lv_at hl 0 rfl) ?_
      refine r_getI X h (ci := 0) (k := 33) (C := RX0) (T := TX0) (N := 36) rfl in_X0 (by decide) q175 rfl dX0_backOn_19 hf (fun x23 hf => ?_)
      refine r_jn hf (fun j25 ej25 hf => ?_)
      have hj25 : ∀  (μ24 : gM) (H : Heap) (locs : List Loc) (ls : Array Slot), j25  μ24 = some r → gWd Γ A μ0.1 ad μ24 s.heap H locs → lv_has ls 4 [(0, .ref (ad b0))] → W p l e ({ frames := 5 + (dd + 1), cells := 0, slots := 0, locals := 111 + (dd + 1) * 23 } : Room) s m args below meth c H locs 0 0 (MQ below (gQ0 Γ ad μ0.1 r A) args s 0 0 A) (F0 m 39 ls []) := by
        intro μ24 H locs ls hf h hl
        rw [ej25] at hf
        refine lv_aload_n X.hx X.hb dX0_backOn_39 rfl (lv_at hl 0 rfl) ?_
        refine lv_dup X.hx X.hb dX0_backOn_40 rfl ?_
        refine r_getI X h (ci := 0) (k := 33) (C := RX0) (T := TX0) (N := 36) rfl in_X0 (by decide) q175 rfl dX0_backOn_41 hf (fun x26 hf => ?_)
        refine lv_iconst (v := 1) X.hx X.hb dX0_backOn_44 (by decide) ?_
        refine lv_iadd X.hx X.hb dX0_backOn_45 ?_
        refine r_put X h (ci := 0) (k := 33) (C := RX0) (T := TX0) (N := 36) (ty0 := tyX0) (ty := .int) (v := .int (x26 + 1)) rfl in_X0 tyX0_ok nmX0 (by decide) q175 rfl rfl (by decide +kernel) rfl rfl (fun j hj => by cases hj) dX0_backOn_46 hf (fun μ27 H locs hf h => ?_)
        exact r_rv X h hr hlk ((by first | exact Nat.le_of_ble_eq_true rfl | omega | (dsimp only; omega))) ((by first | exact Nat.le_of_ble_eq_true rfl | omega | (dsimp only; omega))) dX0_backOn_49 hf
      clear ej25
      refine lv_if_ne (tgt := 39) X.hx X.hb dX0_backOn_22 (by decide) (fun hc => ?_) (fun hc => ?_)
      · replace hf := gif_f hf hc
        clear hc
        exact hj25 _ _ _ _ hf h (lv_sub hl [0] rfl)
      · replace hf := gif_t hf hc
        clear hc
        refine lv_aload_n X.hx X.hb dX0_backOn_25 rfl (lv_at hl 0 rfl) ?_
        refine r_getP X h (ci := 0) (k := 26) (C := RX0) (T := TX0) (N := 36) rfl in_X0 (by decide) q168 rfl dX0_backOn_26 hf (fun i28 hf => ?_)
        refine lv_iconst (v := 0) X.hx X.hb dX0_backOn_29 (by decide) ?_
        refine lv_aload_n X.hx X.hb dX0_backOn_30 rfl (lv_at hl 0 rfl) ?_
        refine r_getP X h (ci := 0) (k := 27) (C := RX0) (T := TX0) (N := 36) rfl in_X0 (by decide) q169 rfl dX0_backOn_31 hf (fun i29 hf => ?_)
        refine lv_iconst (v := 0) X.hx X.hb dX0_backOn_34 (by decide) ?_
        refine lv_iload_n X.hx X.hb dX0_backOn_35 rfl (lv_at hl 1 rfl) ?_
        refine r_copy X h hl.1 q417 ((by first | exact Nat.le_of_ble_eq_true rfl | omega | (dsimp only; omega))) (Nat.le_trans (m := 26) (Nat.le_of_ble_eq_true rfl) ((by first | exact Nat.le_of_ble_eq_true rfl | omega | (dsimp only; omega)))) dX0_backOn_36 hf (fun μ30 H locs hf h => ?_)
        exact hj25 _ _ _ _ hf h (lv_sub hl [0] rfl)
def fX0_backOn : Nat → gM → Nat → Int32 → Int32 → gR
  | 0, _, _, _, _ => none
  | d + 1, μ0, b0, a1, a2 => fX0_backOn_B (fX0_backOn d) μ0 b0 a1 a2
theorem wX0_backOn (l : Launch) (Γ : gG) : ∀ (dd : Nat) (ad : Nat → Nat) (μ0 : gM) (b0 : Nat) (a1 : Int32) (a2 : Int32) (r : Option Value × gM), fX0_backOn dd μ0 b0 a1 a2 = some r → gMt0 l Γ yX0_backOn (ws_ yX0_backOn cX0_backOn 4 none) ({ frames := 5 + dd, cells := 0, slots := 0, locals := 111 + dd * 23 } : Room) 0 0 ad μ0 [.ref (ad b0), .int a1, .int a2] r := by
  intro dd
  induction dd with
  | zero =>
    intro ad μ0 b0 a1 a2 r hf
    have hf : (none : gR) = some r := hf
    cases hf
  | succ dd ih =>
    intro ad μ0 b0 a1 a2 r hf
    exact wX0_backOn_B l Γ dd (fX0_backOn dd) ih ad μ0 b0 a1 a2 r hf
/-! X0_layRow -/
def fX0_layRow (μ0 : gM) (b0 : Nat) (a1 : Int32) (b2 : Nat) (a3 : Int32) : gR := gP (gfld μ0 b0 0 5) fun i1 => glv μ0 b0 <| glv μ0 b2 <| glv μ0 i1 <| gna μ0 0 12 a3 fun μ3 i4 => gha μ3 0 i4 <| gsQ μ3 3 i1 a1 (some i4) fun μ5 => gP (gfld μ5 b0 0 5) fun i6 => gaQ μ5 3 i6 a1 fun o7 => gnn o7 fun i8 => gcp μ5 b2 0 i8 0 a3 fun μ9 => some (some (.int a3), μ9)
set_option maxHeartbeats 4000000 in
theorem wX0_layRow (l : Launch) (Γ : gG) (ad : Nat → Nat) (μ0 : gM) (b0 : Nat) (a1 : Int32) (b2 : Nat) (a3 : Int32) (r : Option Value × gM) (hf : fX0_layRow μ0 b0 a1 b2 a3 = some r) : gMt1 l Γ yX0_layRow (ws_ yX0_layRow cX0_layRow 4 (some .int)) ({ frames := 1, cells := 1, slots := 12, locals := 26 } : Room) 1 12 ad μ0 [.ref (ad b0), .int a1, .ref (ad b2), .int a3] r := by
  intro sz
  refine g_start (maxL := 4) (ret := (some .int)) (by decide) rfl g_all (Nat.le_of_ble_eq_true rfl) ?_
  intro p e s m below meth c ls hr hlk hnm X h hl
  generalize gA ad μ0 sz = A at X h ⊢
  generalize ([.ref (ad b0), .int a1, .ref (ad b2), .int a3] : List Value).toArray = args at X ⊢
  have X : gX p m c cX0_layRow 4 s args "SandPiano" Γ A := X
  have hl : lv_has ls 4 [(0, .ref (ad b0)), (1, .int a1), (2, .ref (ad b2)), (3, .int a3)] := hl
  show W p l e ({ frames := 1, cells := 1, slots := 12, locals := 26 } : Room) s m args below meth c s.heap [] 0 0 (MQ below (gQ1 Γ ad μ0.1 r A) args s 1 12 A) (F0 m 0 ls [])
  unfold fX0_layRow at hf
  have hag : ∀ i, i < μ0.1 → ad i = ad i := fun _ _ => rfl
  refine lv_aload_n X.hx X.hb dX0_layRow_0 rfl (lv_at hl 0 rfl) ?_
  refine r_getP X h (ci := 0) (k := 5) (C := RX0) (T := TX0) (N := 36) rfl in_X0 (by decide) q146 rfl dX0_layRow_1 hf (fun i1 hf => ?_)
  refine lv_iload_n X.hx X.hb dX0_layRow_4 rfl (lv_at hl 1 rfl) ?_
  refine lv_iload_n X.hx X.hb dX0_layRow_5 rfl (lv_at hl 3 rfl) ?_
  obtain ⟨⟨ek0, hek0⟩, hf⟩ := glv_some hf
  have hlt0 := (h.1 _ _ hek0).1
  clear hek0 ek0
  obtain ⟨⟨ek1, hek1⟩, hf⟩ := glv_some hf
  have hlt1 := (h.1 _ _ hek1).1
  clear hek1 ek1
  obtain ⟨⟨ek2, hek2⟩, hf⟩ := glv_some hf
  have hlt2 := (h.1 _ _ hek2).1
  clear hek2 ek2
  have hle := h.2.2.2
  refine r_newI X h (lim := 12) (Nat.le_of_ble_eq_true rfl) (Nat.le_of_ble_eq_true rfl) (Nat.le_of_ble_eq_true rfl) dX0_layRow_6 hf (fun ad2 i4 μ3 H locs hf hag1 h => ?_)
  replace hl : lv_has ls 4 [(0, .ref (ad2 b0)), (1, .int a1), (2, .ref (ad2 b2)), (3, .int a3)] := by rw [hag1 b0 hlt0, hag1 b2 hlt1]; exact hl
  replace hag : ∀ i, i < μ0.1 → ad2 i = ad i := fun i hi => (hag1 i (Nat.lt_of_lt_of_le hi hle)).trans (hag i hi)
  refine W.eq (g2 := F0 m 8 ls [.ref (ad2 i4), .int a1, .ref (ad2 i1)]) (by rw [hag1 i1 hlt2]) ?_
  clear hag1 hle hlt0 hlt1 hlt2
  obtain ⟨⟨n0, f0, hv⟩, hf⟩ := gha_some hf
  refine r_astI X h hv dX0_layRow_8 hf (fun μ5 H locs hf h => ?_)
  refine lv_aload_n X.hx X.hb dX0_layRow_9 rfl (lv_at hl 2 rfl) ?_
  refine lv_iconst (v := 0) X.hx X.hb dX0_layRow_10 (by decide) ?_
  refine lv_aload_n X.hx X.hb dX0_layRow_11 rfl (lv_at hl 0 rfl) ?_
  refine r_getP X h (ci := 0) (k := 5) (C := RX0) (T := TX0) (N := 36) rfl in_X0 (by decide) q146 rfl dX0_layRow_12 hf (fun i6 hf => ?_)
  refine lv_iload_n X.hx X.hb dX0_layRow_15 rfl (lv_at hl 1 rfl) ?_
  refine r_aald X h (t := 3) rfl rfl dX0_layRow_16 hf (fun o7 hf => ?_)
  refine r_nn hf (fun i8 hf => ?_)
  refine lv_iconst (v := 0) X.hx X.hb dX0_layRow_17 (by decide) ?_
  refine lv_iload_n X.hx X.hb dX0_layRow_18 rfl (lv_at hl 3 rfl) ?_
  refine r_copy X h hl.1 q417 (Nat.le_of_ble_eq_true rfl) (Nat.le_trans (m := 26) (Nat.le_of_ble_eq_true rfl) (Nat.le_of_ble_eq_true rfl)) dX0_layRow_19 hf (fun μ9 H locs hf h => ?_)
  refine lv_iload_n X.hx X.hb dX0_layRow_22 rfl (lv_at hl 3 rfl) ?_
  exact r_ri1 X h hag hr hlk (Nat.le_of_ble_eq_true rfl) (Nat.le_of_ble_eq_true rfl) dX0_layRow_23 hf
/-! X0_back -/
def fX0_back_L86 (b0 : Nat) (a1 : Int32) (a2 : Int32) (a3 : Int32) (i17 : Nat) (x18 : Int32) (kx124 : gM → gR) (kx112 : gM → gR) : Nat → Int32 → gM → gR
  | 0, _, _ => none
  | n21 + 1, x19, μ20 => if x18 ≤ x19 then (kx124 μ20) else (gaI μ20 0 i17 x19 fun x23 => cI (fX0_isIn μ20 x23 0 999) fun x24 μ25 => if x24 = 0 then (kx112 μ25) else (gnm (x19 + 1) fun x26 => fX0_back_L86 b0 a1 a2 a3 i17 x18 kx124 kx112 n21 x26 μ25))
set_option maxHeartbeats 4000000 in
theorem wX0_back_L86 {p : Program} {e : Env} {s : State} {m : MethodId} {args : Array Value} {below : List Frame} {meth : Method} {c : Code} {Γ : gG} {A : Nat → Prop} {nz : Nat} {ad : Nat → Nat} {r : Option Value × gM} (l : Launch) (b0 : Nat) (a1 : Int32) (a2 : Int32) (a3 : Int32) (i17 : Nat) (x18 : Int32) (kx124 : gM → gR) (kx112 : gM → gR) (X : gX p m c cX0_back 8 s args "SandPiano" Γ A) (hr : meth.sig.returnType = (some .int)) (hlk : meth.locks = false) (hk124 : ∀  (μ : gM) (ad1 : Nat → Nat) (H : Heap) (locs : List Loc) (ls : Array Slot), (∀ i, i < nz → ad1 i = ad i) → kx124  μ = some r → gWd Γ A nz ad1 μ s.heap H locs → lv_has ls 8 [(0, .ref (ad1 b0)), (1, .int a1), (2, .int a2), (3, .int a3)] → W p l e ({ frames := 14, cells := 1, slots := 12, locals := 318 } : Room) s m args below meth c H locs 0 0 (MQ below (gQ1 Γ ad nz r A) args s 1 12 A) (F0 m 124 ls [])) (hk112 : ∀  (μ : gM) (ad1 : Nat → Nat) (H : Heap) (locs : List Loc) (ls : Array Slot), (∀ i, i < nz → ad1 i = ad i) → kx112  μ = some r → gWd Γ A nz ad1 μ s.heap H locs → lv_has ls 8 [(0, .ref (ad1 b0))] → W p l e ({ frames := 14, cells := 1, slots := 12, locals := 318 } : Room) s m args below meth c H locs 0 0 (MQ below (gQ1 Γ ad nz r A) args s 1 12 A) (F0 m 112 ls [])) : ∀ (n21 : Nat) (x19 : Int32) (μ20 : gM) (ad22 : Nat → Nat) (H : Heap) (locs : List Loc) (ls : Array Slot), (∀ i, i < nz → ad22 i = ad i) → fX0_back_L86 b0 a1 a2 a3 i17 x18 kx124 kx112 n21 x19 μ20 = some r → gWd Γ A nz ad22 μ20 s.heap H locs → lv_has ls 8 [(0, .ref (ad22 b0)), (1, .int a1), (2, .int a2), (3, .int a3), (4, .ref (ad22 i17)), (5, .int x18), (6, .int x19)] → W p l e ({ frames := 14, cells := 1, slots := 12, locals := 318 } : Room) s m args below meth c H locs 0 0 (MQ below (gQ1 Γ ad nz r A) args s 1 12 A) (F0 m 86 ls []) := by
  intro n21
  induction n21 with
  | zero =>
    intro x19 μ20 ad22 H locs ls hag hf h hl
    have hf : (none : gR) = some r := hf
    cases hf
  | succ n21 ih =>
    intro x19 μ20 ad22 H locs ls hag hf h hl
    rw [fX0_back_L86] at hf
    refine lv_iload X.hx X.hb dX0_back_86 (lv_at hl 6 rfl) ?_
    refine lv_iload X.hx X.hb dX0_back_88 (lv_at hl 5 rfl) ?_
    refine lv_icmp_ge (tgt := 124) X.hx X.hb dX0_back_90 (by decide) (fun hc => ?_) (fun hc => ?_)
    · replace hf := gif_t hf hc
      clear hc
      exact hk124 _ _ _ _ _ hag hf h (lv_sub hl [0, 1, 2, 3] rfl)
    · replace hf := gif_f hf hc
      clear hc
      refine lv_aload X.hx X.hb dX0_back_93 (lv_at hl 4 rfl) ?_
      refine lv_iload X.hx X.hb dX0_back_95 (lv_at hl 6 rfl) ?_
      refine r_iald X h dX0_back_97 hf (fun x23 hf => ?_)
      refine lv_istore (lv' := [(7, .int x23), (0, .ref (ad22 b0)), (1, .int a1), (2, .int a2), (3, .int a3), (4, .ref (ad22 i17)), (5, .int x18), (6, .int x19)]) X.hx X.hb dX0_back_98 hl (by decide) rfl (fun ls hl => ?_)
      refine lv_iload X.hx X.hb dX0_back_100 (lv_at hl 0 rfl) ?_
      refine lv_iconst (v := 0) X.hx X.hb dX0_back_102 (by decide) ?_
      refine lv_sipush (v := 999) X.hx X.hb dX0_back_103 (by decide) ?_
      refine r_cSI (As := [.int x23, .int 0, .int 999]) (rest := []) X h hf (fun res hres => wX0_isIn l Γ ad22 _ x23 0 999 res hres) (va_cwS 3 X.hts (lw_S q344 q345 q82 q346) rfl rfl rfl (by decide +kernel) ⟨Nat.le_of_ble_eq_true rfl, Nat.le_of_ble_eq_true rfl⟩) rfl ⟨hl.1, Nat.le_of_ble_eq_true rfl, Nat.le_of_ble_eq_true rfl, Nat.le_of_ble_eq_true rfl⟩ rfl dX0_back_106 (fun x24 μ25 H locs hf h => ?_)
      refine lv_if_ne (tgt := 118) X.hx X.hb dX0_back_109 (by decide) (fun hc => ?_) (fun hc => ?_)
      · replace hf := gif_f hf hc
        clear hc
        refine r_nmk hf (fun x26 ex hf => ?_)
        refine lv_iinc (v := x26) (lv' := [(6, .int x26), (7, .int x23), (0, .ref (ad22 b0)), (1, .int a1), (2, .int a2), (3, .int a3), (4, .ref (ad22 i17)), (5, .int x18)]) X.hx X.hb dX0_back_118 hl (k := 7) rfl (by rw [ex]; rfl) (by decide) rfl (fun ls hl => ?_)
        clear ex
        refine lv_goto (tgt := 86) X.hx X.hb dX0_back_121 (by decide) ?_
        exact ih _ _ _ _ _ _ hag hf h (lv_sub hl [2, 3, 4, 5, 6, 7, 0] rfl)
      · replace hf := gif_t hf hc
        clear hc
        exact hk112 _ _ _ _ _ hag hf h (lv_sub hl [1] rfl)
def fX0_back_L127 (b0 : Nat) (a1 : Int32) (a2 : Int32) (a3 : Int32) (kx174 : gM → gR) : Nat → Int32 → gM → gR
  | 0, _, _ => none
  | n31 + 1, x29, μ30 => if 9 ≤ x29 then (kx174 μ30) else (gP (gfld μ30 b0 0 25) fun i33 => gaQ μ30 7 i33 0 fun o34 => gnn o34 fun i35 => gP (gfld μ30 i35 1 0) fun i36 => gI (gfld μ30 b0 0 7) fun x37 => gjn (fun (x38 : Int32) (μ39 : gM) => gsI μ39 0 i36 x29 x38 fun μ42 => gnm (x29 + 1) fun x43 => fX0_back_L127 b0 a1 a2 a3 kx174 n31 x43 μ42) fun j40 => if x37 ≤ x29 then (j40 0 μ30) else (gP (gfld μ30 b0 0 5) fun i44 => gaQ μ30 3 i44 a1 fun o45 => gnn o45 fun i46 => gaI μ30 0 i46 x29 fun x47 => j40 x47 μ30))
set_option maxHeartbeats 4000000 in
theorem wX0_back_L127 {p : Program} {e : Env} {s : State} {m : MethodId} {args : Array Value} {below : List Frame} {meth : Method} {c : Code} {Γ : gG} {A : Nat → Prop} {nz : Nat} {ad : Nat → Nat} {r : Option Value × gM} (l : Launch) (b0 : Nat) (a1 : Int32) (a2 : Int32) (a3 : Int32) (kx174 : gM → gR) (X : gX p m c cX0_back 8 s args "SandPiano" Γ A) (hr : meth.sig.returnType = (some .int)) (hlk : meth.locks = false) (hk174 : ∀  (μ : gM) (ad1 : Nat → Nat) (H : Heap) (locs : List Loc) (ls : Array Slot), (∀ i, i < nz → ad1 i = ad i) → kx174  μ = some r → gWd Γ A nz ad1 μ s.heap H locs → lv_has ls 8 [(0, .ref (ad1 b0)), (2, .int a2), (3, .int a3)] → W p l e ({ frames := 14, cells := 1, slots := 12, locals := 318 } : Room) s m args below meth c H locs 0 0 (MQ below (gQ1 Γ ad nz r A) args s 1 12 A) (F0 m 174 ls [])) : ∀ (n31 : Nat) (x29 : Int32) (μ30 : gM) (ad32 : Nat → Nat) (H : Heap) (locs : List Loc) (ls : Array Slot), (∀ i, i < nz → ad32 i = ad i) → fX0_back_L127 b0 a1 a2 a3 kx174 n31 x29 μ30 = some r → gWd Γ A nz ad32 μ30 s.heap H locs → lv_has ls 8 [(0, .ref (ad32 b0)), (1, .int a1), (2, .int a2), (3, .int a3), (4, .int x29)] → W p l e ({ frames := 14, cells := 1, slots := 12, locals := 318 } : Room) s m args below meth c H locs 0 0 (MQ below (gQ1 Γ ad nz r A) args s 1 12 A) (F0 m 127 ls []) := by
  intro n31
  induction n31 with
  | zero =>
    intro x29 μ30 ad32 H locs ls hag hf h hl
    have hf : (none : gR) = some r := hf
    cases hf
  | succ n31 ih =>
    intro x29 μ30 ad32 H locs ls hag hf h hl
    rw [fX0_back_L127] at hf
    refine lv_iload X.hx X.hb dX0_back_127 (lv_at hl 4 rfl) ?_
    refine lv_bipush (v := 9) X.hx X.hb dX0_back_129 (by decide) ?_
    refine lv_icmp_ge (tgt := 174) X.hx X.hb dX0_back_131 (by decide) (fun hc => ?_) (fun hc => ?_)
    · replace hf := gif_t hf hc
      clear hc
      exact hk174 _ _ _ _ _ hag hf h (lv_sub hl [0, 2, 3] rfl)
    · replace hf := gif_f hf hc
      clear hc
      refine lv_aload_n X.hx X.hb dX0_back_134 rfl (lv_at hl 0 rfl) ?_
      refine r_getP X h (ci := 0) (k := 25) (C := RX0) (T := TX0) (N := 36) rfl in_X0 (by decide) q167 rfl dX0_back_135 hf (fun i33 hf => ?_)
      refine lv_iconst (v := 0) X.hx X.hb dX0_back_138 (by decide) ?_
      refine r_aald X h (t := 7) rfl rfl dX0_back_139 hf (fun o34 hf => ?_)
      refine r_nn hf (fun i35 hf => ?_)
      refine r_getNP X h (ci := 1) (k := 0) (C := RX1) (T := TX1) (N := 1) rfl in_X1 (by decide) 8 rfl rfl dX0_back_140 hf (fun i36 hf => ?_)
      refine lv_iload X.hx X.hb dX0_back_143 (lv_at hl 4 rfl) ?_
      refine lv_iload X.hx X.hb dX0_back_145 (lv_at hl 4 rfl) ?_
      refine lv_aload_n X.hx X.hb dX0_back_147 rfl (lv_at hl 0 rfl) ?_
      refine r_getI X h (ci := 0) (k := 7) (C := RX0) (T := TX0) (N := 36) rfl in_X0 (by decide) q149 rfl dX0_back_148 hf (fun x37 hf => ?_)
      refine r_jn hf (fun j40 ej40 hf => ?_)
      have hj40 : ∀ (x38 : Int32) (μ39 : gM) (ad41 : Nat → Nat) (H : Heap) (locs : List Loc) (ls : Array Slot), (∀ i, i < nz → ad41 i = ad i) → j40 x38 μ39 = some r → gWd Γ A nz ad41 μ39 s.heap H locs → lv_has ls 8 [(0, .ref (ad41 b0)), (1, .int a1), (2, .int a2), (3, .int a3), (4, .int x29)] → W p l e ({ frames := 14, cells := 1, slots := 12, locals := 318 } : Room) s m args below meth c H locs 0 0 (MQ below (gQ1 Γ ad nz r A) args s 1 12 A) (F0 m 167 ls [.int x38, .int x29, .ref (ad41 i36)]) := by
        intro x38 μ39 ad41 H locs ls hag hf h hl
        rw [ej40] at hf
        refine r_iast X h dX0_back_167 hf (fun μ42 H locs hf h => ?_)
        refine r_nmk hf (fun x43 ex hf => ?_)
        refine lv_iinc (v := x43) (lv' := [(4, .int x43), (0, .ref (ad41 b0)), (1, .int a1), (2, .int a2), (3, .int a3)]) X.hx X.hb dX0_back_168 hl (k := 4) rfl (by rw [ex]; rfl) (by decide) rfl (fun ls hl => ?_)
        clear ex
        refine lv_goto (tgt := 127) X.hx X.hb dX0_back_171 (by decide) ?_
        exact ih _ _ _ _ _ _ hag hf h (lv_sub hl [1, 2, 3, 4, 0] rfl)
      clear ej40
      refine lv_icmp_ge (tgt := 166) X.hx X.hb dX0_back_151 (by decide) (fun hc => ?_) (fun hc => ?_)
      · replace hf := gif_t hf hc
        clear hc
        refine lv_iconst (v := 0) X.hx X.hb dX0_back_166 (by decide) ?_
        exact hj40 _ _ _ _ _ _ hag hf h (lv_sub hl [0, 1, 2, 3, 4] rfl)
      · replace hf := gif_f hf hc
        clear hc
        refine lv_aload_n X.hx X.hb dX0_back_154 rfl (lv_at hl 0 rfl) ?_
        refine r_getP X h (ci := 0) (k := 5) (C := RX0) (T := TX0) (N := 36) rfl in_X0 (by decide) q146 rfl dX0_back_155 hf (fun i44 hf => ?_)
        refine lv_iload_n X.hx X.hb dX0_back_158 rfl (lv_at hl 1 rfl) ?_
        refine r_aald X h (t := 3) rfl rfl dX0_back_159 hf (fun o45 hf => ?_)
        refine r_nn hf (fun i46 hf => ?_)
        refine lv_iload X.hx X.hb dX0_back_160 (lv_at hl 4 rfl) ?_
        refine r_iald X h dX0_back_162 hf (fun x47 hf => ?_)
        refine lv_goto (tgt := 167) X.hx X.hb dX0_back_163 (by decide) ?_
        exact hj40 _ _ _ _ _ _ hag hf h (lv_sub hl [0, 1, 2, 3, 4] rfl)
def fX0_back (μ0 : gM) (b0 : Nat) (a1 : Int32) (a2 : Int32) (a3 : Int32) : gR := cI (fX0_isRow μ0 a1) fun x1 μ2 => if x1 = 0 then (some (some (.int (-1)), μ2)) else (cI (fX0_isIn μ2 a2 0 4) fun x3 μ4 => if x3 = 0 then (some (some (.int (-1)), μ4)) else (cI (fX0_isRow μ4 a3) fun x5 μ6 => if x5 = 0 then (some (some (.int (-1)), μ6)) else (gI (gfld μ6 b0 0 7) fun x7 => if x7 = 0 then (some (some (.int (-4)), μ6)) else (gP (gfld μ6 b0 0 5) fun i8 => gaQ μ6 3 i8 a1 fun o9 => gnu o9 (gis μ6 b0 0 <| cI (fX0_found μ6 b0 1) fun x67 μ68 => some (some (.int x67), μ68)) (gP (gfld μ6 b0 0 5) fun i10 => gaQ μ6 3 i10 a1 fun o11 => gnn o11 fun i12 => glen μ6 0 i12 fun x13 => gI (gfld μ6 b0 0 7) fun x14 => if x13 = x14 then (gP (gfld μ6 b0 0 5) fun i15 => gaQ μ6 3 i15 a1 fun o16 => gnn o16 fun i17 => glen μ6 0 i17 fun x18 => fX0_back_L86 b0 a1 a2 a3 i17 x18 (fun (μ27 : gM) => fX0_back_L127 b0 a1 a2 a3 (fun (μ48 : gM) => gpf μ48 b0 0 33 (.int 0) fun μ50 => gis μ50 b0 0 <| cV (fX0_backOn 8 μ50 b0 0 a2) fun μ51 => gI (gfld μ51 b0 0 33) fun x52 => gjn (fun (μ53 : gM) => gI (gfld μ53 b0 0 33) fun x56 => some (some (.int x56), μ53)) fun j54 => if x52 ≤ 0 then (j54 μ51) else (gP (gfld μ51 b0 0 27) fun i57 => glv μ51 b0 <| gis μ51 b0 0 <| cI (fX0_layRow μ51 b0 a3 i57 a2) fun x58 μ59 => j54 μ59)) 10000 0 μ27) (fun (μ61 : gM) => gis μ61 b0 0 <| cI (fX0_found μ61 b0 3) fun x63 μ64 => some (some (.int x63), μ64)) 10000 0 μ6) else (gis μ6 b0 0 <| cI (fX0_found μ6 b0 5) fun x65 μ66 => some (some (.int x65), μ66)))))))
set_option maxHeartbeats 4000000 in
theorem wX0_back (l : Launch) (Γ : gG) (ad : Nat → Nat) (μ0 : gM) (b0 : Nat) (a1 : Int32) (a2 : Int32) (a3 : Int32) (r : Option Value × gM) (hf : fX0_back μ0 b0 a1 a2 a3 = some r) : gMt1 l Γ yX0_back (ws_ yX0_back cX0_back 8 (some .int)) ({ frames := 14, cells := 1, slots := 12, locals := 318 } : Room) 1 12 ad μ0 [.ref (ad b0), .int a1, .int a2, .int a3] r := by
  intro sz
  refine g_start (maxL := 8) (ret := (some .int)) (by decide) rfl g_all (Nat.le_of_ble_eq_true rfl) ?_
  intro p e s m below meth c ls hr hlk hnm X h hl
  generalize gA ad μ0 sz = A at X h ⊢
  generalize ([.ref (ad b0), .int a1, .int a2, .int a3] : List Value).toArray = args at X ⊢
  have X : gX p m c cX0_back 8 s args "SandPiano" Γ A := X
  have hl : lv_has ls 8 [(0, .ref (ad b0)), (1, .int a1), (2, .int a2), (3, .int a3)] := hl
  show W p l e ({ frames := 14, cells := 1, slots := 12, locals := 318 } : Room) s m args below meth c s.heap [] 0 0 (MQ below (gQ1 Γ ad μ0.1 r A) args s 1 12 A) (F0 m 0 ls [])
  unfold fX0_back at hf
  have hag : ∀ i, i < μ0.1 → ad i = ad i := fun _ _ => rfl
  refine lv_iload_n X.hx X.hb dX0_back_0 rfl (lv_at hl 1 rfl) ?_
  refine r_cSI (As := [.int a1]) (rest := []) X h hf (fun res hres => wX0_isRow l Γ ad _ a1 res hres) (va_cwS 1 X.hts (lw_S q341 q342 q82 q343) rfl rfl rfl (by decide +kernel) ⟨Nat.le_of_ble_eq_true rfl, Nat.le_of_ble_eq_true rfl⟩) rfl ⟨hl.1, Nat.le_of_ble_eq_true rfl, Nat.le_of_ble_eq_true rfl, Nat.le_of_ble_eq_true rfl⟩ rfl dX0_back_1 (fun x1 μ2 H locs hf h => ?_)
  refine lv_if_eq (tgt := 23) X.hx X.hb dX0_back_4 (by decide) (fun hc => ?_) (fun hc => ?_)
  · replace hf := gif_t hf hc
    clear hc
    refine lv_iconst (v := (-1)) X.hx X.hb dX0_back_23 (by decide) ?_
    exact r_ri1 X h hag hr hlk (Nat.le_of_ble_eq_true rfl) (Nat.le_of_ble_eq_true rfl) dX0_back_24 hf
  · replace hf := gif_f hf hc
    clear hc
    refine lv_iload_n X.hx X.hb dX0_back_7 rfl (lv_at hl 2 rfl) ?_
    refine lv_iconst (v := 0) X.hx X.hb dX0_back_8 (by decide) ?_
    refine lv_iconst (v := 4) X.hx X.hb dX0_back_9 (by decide) ?_
    refine r_cSI (As := [.int a2, .int 0, .int 4]) (rest := []) X h hf (fun res hres => wX0_isIn l Γ ad _ a2 0 4 res hres) (va_cwS 3 X.hts (lw_S q344 q345 q82 q346) rfl rfl rfl (by decide +kernel) ⟨Nat.le_of_ble_eq_true rfl, Nat.le_of_ble_eq_true rfl⟩) rfl ⟨hl.1, Nat.le_of_ble_eq_true rfl, Nat.le_of_ble_eq_true rfl, Nat.le_of_ble_eq_true rfl⟩ rfl dX0_back_10 (fun x3 μ4 H locs hf h => ?_)
    refine lv_if_eq (tgt := 23) X.hx X.hb dX0_back_13 (by decide) (fun hc => ?_) (fun hc => ?_)
    · replace hf := gif_t hf hc
      clear hc
      refine lv_iconst (v := (-1)) X.hx X.hb dX0_back_23 (by decide) ?_
      exact r_ri1 X h hag hr hlk (Nat.le_of_ble_eq_true rfl) (Nat.le_of_ble_eq_true rfl) dX0_back_24 hf
    · replace hf := gif_f hf hc
      clear hc
      refine lv_iload_n X.hx X.hb dX0_back_16 rfl (lv_at hl 3 rfl) ?_
      refine r_cSI (As := [.int a3]) (rest := []) X h hf (fun res hres => wX0_isRow l Γ ad _ a3 res hres) (va_cwS 1 X.hts (lw_S q341 q342 q82 q343) rfl rfl rfl (by decide +kernel) ⟨Nat.le_of_ble_eq_true rfl, Nat.le_of_ble_eq_true rfl⟩) rfl ⟨hl.1, Nat.le_of_ble_eq_true rfl, Nat.le_of_ble_eq_true rfl, Nat.le_of_ble_eq_true rfl⟩ rfl dX0_back_17 (fun x5 μ6 H locs hf h => ?_)
      refine lv_if_ne (tgt := 25) X.hx X.hb dX0_back_20 (by decide) (fun hc => ?_) (fun hc => ?_)
      · replace hf := gif_f hf hc
        clear hc
        refine lv_aload_n X.hx X.hb dX0_back_25 rfl (lv_at hl 0 rfl) ?_
        refine r_getI X h (ci := 0) (k := 7) (C := RX0) (T := TX0) (N := 36) rfl in_X0 (by decide) q149 rfl dX0_back_26 hf (fun x7 hf => ?_)
        refine lv_if_ne (tgt := 35) X.hx X.hb dX0_back_29 (by decide) (fun hc => ?_) (fun hc => ?_)
        · replace hf := gif_f hf hc
          clear hc
          refine lv_aload_n X.hx X.hb dX0_back_35 rfl (lv_at hl 0 rfl) ?_
          refine r_getP X h (ci := 0) (k := 5) (C := RX0) (T := TX0) (N := 36) rfl in_X0 (by decide) q146 rfl dX0_back_36 hf (fun i8 hf => ?_)
          refine lv_iload_n X.hx X.hb dX0_back_39 rfl (lv_at hl 1 rfl) ?_
          refine r_aald X h (t := 3) rfl rfl dX0_back_40 hf (fun o9 hf => ?_)
          refine r_ifnn (tgt := 50) X.hx X.hb dX0_back_41 (by decide) hf (fun hf => ?_) (fun hf => ?_)
          · refine lv_aload_n X.hx X.hb dX0_back_50 rfl (lv_at hl 0 rfl) ?_
            refine r_getP X h (ci := 0) (k := 5) (C := RX0) (T := TX0) (N := 36) rfl in_X0 (by decide) q146 rfl dX0_back_51 hf (fun i10 hf => ?_)
            refine lv_iload_n X.hx X.hb dX0_back_54 rfl (lv_at hl 1 rfl) ?_
            refine r_aald X h (t := 3) rfl rfl dX0_back_55 hf (fun o11 hf => ?_)
            refine r_nn hf (fun i12 hf => ?_)
            refine r_len X h (t := 0) rfl dX0_back_56 hf (fun x13 hf => ?_)
            refine lv_aload_n X.hx X.hb dX0_back_57 rfl (lv_at hl 0 rfl) ?_
            refine r_getI X h (ci := 0) (k := 7) (C := RX0) (T := TX0) (N := 36) rfl in_X0 (by decide) q149 rfl dX0_back_58 hf (fun x14 hf => ?_)
            refine lv_icmp_eq (tgt := 70) X.hx X.hb dX0_back_61 (by decide) (fun hc => ?_) (fun hc => ?_)
            · replace hf := gif_t hf hc
              clear hc
              refine lv_aload_n X.hx X.hb dX0_back_70 rfl (lv_at hl 0 rfl) ?_
              refine r_getP X h (ci := 0) (k := 5) (C := RX0) (T := TX0) (N := 36) rfl in_X0 (by decide) q146 rfl dX0_back_71 hf (fun i15 hf => ?_)
              refine lv_iload_n X.hx X.hb dX0_back_74 rfl (lv_at hl 1 rfl) ?_
              refine r_aald X h (t := 3) rfl rfl dX0_back_75 hf (fun o16 hf => ?_)
              refine r_nn hf (fun i17 hf => ?_)
              refine lv_astore (lv' := [(4, .ref (ad i17)), (0, .ref (ad b0)), (1, .int a1), (2, .int a2), (3, .int a3)]) X.hx X.hb dX0_back_76 hl (by decide) rfl (fun ls hl => ?_)
              refine lv_aload X.hx X.hb dX0_back_78 (lv_at hl 0 rfl) ?_
              refine r_len X h (t := 0) rfl dX0_back_80 hf (fun x18 hf => ?_)
              refine lv_istore (lv' := [(5, .int x18), (4, .ref (ad i17)), (0, .ref (ad b0)), (1, .int a1), (2, .int a2), (3, .int a3)]) X.hx X.hb dX0_back_81 hl (by decide) rfl (fun ls hl => ?_)
              refine lv_iconst (v := 0) X.hx X.hb dX0_back_83 (by decide) ?_
              refine lv_istore (lv' := [(6, .int 0), (5, .int x18), (4, .ref (ad i17)), (0, .ref (ad b0)), (1, .int a1), (2, .int a2), (3, .int a3)]) X.hx X.hb dX0_back_84 hl (by decide) rfl (fun ls hl => ?_)
              refine wX0_back_L86 l b0 a1 a2 a3 i17 x18 _ _ X hr hlk (fun μ27 ad28 H locs ls hag hf h hl => ?_) (fun μ61 ad62 H locs ls hag hf h hl => ?_) 10000 _ _ _ _ _ _ hag hf h (lv_sub hl [3, 4, 5, 6, 2, 1, 0] rfl)
              · refine lv_iconst (v := 0) X.hx X.hb dX0_back_124 (by decide) ?_
                refine lv_istore (lv' := [(4, .int 0), (0, .ref (ad28 b0)), (1, .int a1), (2, .int a2), (3, .int a3)]) X.hx X.hb dX0_back_125 hl (by decide) rfl (fun ls hl => ?_)
                refine wX0_back_L127 l b0 a1 a2 a3 _ X hr hlk (fun μ48 ad49 H locs ls hag hf h hl => ?_) 10000 _ _ _ _ _ _ hag hf h (lv_sub hl [1, 2, 3, 4, 0] rfl)
                refine lv_aload_n X.hx X.hb dX0_back_174 rfl (lv_at hl 0 rfl) ?_
                refine lv_iconst (v := 0) X.hx X.hb dX0_back_175 (by decide) ?_
                refine r_put X h (ci := 0) (k := 33) (C := RX0) (T := TX0) (N := 36) (ty0 := tyX0) (ty := .int) (v := .int 0) rfl in_X0 tyX0_ok nmX0 (by decide) q175 rfl rfl (by decide +kernel) rfl rfl (fun j hj => by cases hj) dX0_back_176 hf (fun μ50 H locs hf h => ?_)
                refine lv_aload_n X.hx X.hb dX0_back_179 rfl (lv_at hl 0 rfl) ?_
                refine lv_iconst (v := 0) X.hx X.hb dX0_back_180 (by decide) ?_
                refine lv_iload_n X.hx X.hb dX0_back_181 rfl (lv_at hl 1 rfl) ?_
                refine r_cVV (As := [.int 0, .int a2]) (rest := []) (C := RX0) (T := TX0) (N := 36) X h hf (fun res hres => wX0_backOn l Γ 8 ad49 _ b0 0 a2 res hres) rfl (cwV 2 X.hts (lw_V q916 q918 qs26 q82 q919) rfl rfl rfl (by decide +kernel) ⟨Nat.le_of_ble_eq_true rfl, Nat.le_of_ble_eq_true rfl⟩) rfl ⟨hl.1, Nat.le_of_ble_eq_true rfl, Nat.le_of_ble_eq_true rfl, Nat.le_of_ble_eq_true rfl⟩ rfl dX0_back_182 (fun μ51 H locs hf h => ?_)
                refine lv_aload_n X.hx X.hb dX0_back_185 rfl (lv_at hl 0 rfl) ?_
                refine r_getI X h (ci := 0) (k := 33) (C := RX0) (T := TX0) (N := 36) rfl in_X0 (by decide) q175 rfl dX0_back_186 hf (fun x52 hf => ?_)
                refine r_jn hf (fun j54 ej54 hf => ?_)
                have hj54 : ∀  (μ53 : gM) (ad55 : Nat → Nat) (H : Heap) (locs : List Loc) (ls : Array Slot), (∀ i, i < μ0.1 → ad55 i = ad i) → j54  μ53 = some r → gWd Γ A μ0.1 ad55 μ53 s.heap H locs → lv_has ls 8 [(0, .ref (ad55 b0))] → W p l e ({ frames := 14, cells := 1, slots := 12, locals := 318 } : Room) s m args below meth c H locs 1 12 (MQ below (gQ1 Γ ad μ0.1 r A) args s 1 12 A) (F0 m 203 ls []) := by
                  intro μ53 ad55 H locs ls hag hf h hl
                  rw [ej54] at hf
                  refine lv_aload_n X.hx X.hb dX0_back_203 rfl (lv_at hl 0 rfl) ?_
                  refine r_getI X h (ci := 0) (k := 33) (C := RX0) (T := TX0) (N := 36) rfl in_X0 (by decide) q175 rfl dX0_back_204 hf (fun x56 hf => ?_)
                  exact r_ri1 X h hag hr hlk (Nat.le_of_ble_eq_true rfl) (Nat.le_of_ble_eq_true rfl) dX0_back_207 hf
                clear ej54
                refine lv_if_le (tgt := 203) X.hx X.hb dX0_back_189 (by decide) (fun hc => ?_) (fun hc => ?_)
                · replace hf := gif_t hf hc
                  clear hc
                  refine W.widen (k := 1) (n := 12) (Nat.le_of_ble_eq_true rfl) (Nat.le_of_ble_eq_true rfl) ?_
                  exact hj54 _ _ _ _ _ hag hf h (lv_sub hl [0] rfl)
                · replace hf := gif_f hf hc
                  clear hc
                  refine lv_aload_n X.hx X.hb dX0_back_192 rfl (lv_at hl 0 rfl) ?_
                  refine lv_iload_n X.hx X.hb dX0_back_193 rfl (lv_at hl 2 rfl) ?_
                  refine lv_aload_n X.hx X.hb dX0_back_194 rfl (lv_at hl 0 rfl) ?_
                  refine r_getP X h (ci := 0) (k := 27) (C := RX0) (T := TX0) (N := 36) rfl in_X0 (by decide) q169 rfl dX0_back_195 hf (fun i57 hf => ?_)
                  refine lv_iload_n X.hx X.hb dX0_back_198 rfl (lv_at hl 1 rfl) ?_
                  obtain ⟨⟨ek0, hek0⟩, hf⟩ := glv_some hf
                  have hlt0 := (h.1 _ _ hek0).1
                  clear hek0 ek0
                  have hle := h.2.2.2
                  refine r_cVI1 (As := [.int a3, .ref (ad49 i57), .int a2]) (rest := []) (C := RX0) (T := TX0) (N := 36) X h hf (fun res hres => wX0_layRow l Γ ad49 _ b0 a3 i57 a2 res hres) rfl (cwV 3 X.hts (lw_V q865 q867 qs20 q82 q868) rfl rfl rfl (by decide +kernel) ⟨Nat.le_of_ble_eq_true rfl, Nat.le_of_ble_eq_true rfl⟩) rfl ⟨hl.1, Nat.le_of_ble_eq_true rfl, Nat.le_of_ble_eq_true rfl, Nat.le_of_ble_eq_true rfl⟩ rfl dX0_back_199 (fun x58 ad60 μ59 H locs hf hag1 h => ?_)
                  replace hl : lv_has ls 8 [(0, .ref (ad60 b0)), (2, .int a2), (3, .int a3)] := by rw [hag1 b0 hlt0]; exact hl
                  replace hag : ∀ i, i < μ0.1 → ad60 i = ad i := fun i hi => (hag1 i (Nat.lt_of_lt_of_le hi hle)).trans (hag i hi)
                  clear hag1 hle hlt0
                  refine lv_pop X.hx X.hb dX0_back_202 rfl ?_
                  exact hj54 _ _ _ _ _ hag hf h (lv_sub hl [0] rfl)
              · refine lv_aload_n X.hx X.hb dX0_back_112 rfl (lv_at hl 0 rfl) ?_
                refine lv_iconst (v := 3) X.hx X.hb dX0_back_113 (by decide) ?_
                refine r_cVI (As := [.int 3]) (rest := []) (C := RX0) (T := TX0) (N := 36) X h hf (fun res hres => wX0_found l Γ ad62 _ b0 3 res hres) rfl (cwV 1 X.hts (lw_V q347 q349 qs2 q82 q350) rfl rfl rfl (by decide +kernel) ⟨Nat.le_of_ble_eq_true rfl, Nat.le_of_ble_eq_true rfl⟩) rfl ⟨hl.1, Nat.le_of_ble_eq_true rfl, Nat.le_of_ble_eq_true rfl, Nat.le_of_ble_eq_true rfl⟩ rfl dX0_back_114 (fun x63 μ64 H locs hf h => ?_)
                exact r_ri1 X h hag hr hlk (Nat.le_of_ble_eq_true rfl) (Nat.le_of_ble_eq_true rfl) dX0_back_117 hf
            · replace hf := gif_f hf hc
              clear hc
              refine lv_aload_n X.hx X.hb dX0_back_64 rfl (lv_at hl 0 rfl) ?_
              refine lv_iconst (v := 5) X.hx X.hb dX0_back_65 (by decide) ?_
              refine r_cVI (As := [.int 5]) (rest := []) (C := RX0) (T := TX0) (N := 36) X h hf (fun res hres => wX0_found l Γ ad _ b0 5 res hres) rfl (cwV 1 X.hts (lw_V q347 q349 qs2 q82 q350) rfl rfl rfl (by decide +kernel) ⟨Nat.le_of_ble_eq_true rfl, Nat.le_of_ble_eq_true rfl⟩) rfl ⟨hl.1, Nat.le_of_ble_eq_true rfl, Nat.le_of_ble_eq_true rfl, Nat.le_of_ble_eq_true rfl⟩ rfl dX0_back_66 (fun x65 μ66 H locs hf h => ?_)
              exact r_ri1 X h hag hr hlk (Nat.le_of_ble_eq_true rfl) (Nat.le_of_ble_eq_true rfl) dX0_back_69 hf
          · refine lv_aload_n X.hx X.hb dX0_back_44 rfl (lv_at hl 0 rfl) ?_
            refine lv_iconst (v := 1) X.hx X.hb dX0_back_45 (by decide) ?_
            refine r_cVI (As := [.int 1]) (rest := []) (C := RX0) (T := TX0) (N := 36) X h hf (fun res hres => wX0_found l Γ ad _ b0 1 res hres) rfl (cwV 1 X.hts (lw_V q347 q349 qs2 q82 q350) rfl rfl rfl (by decide +kernel) ⟨Nat.le_of_ble_eq_true rfl, Nat.le_of_ble_eq_true rfl⟩) rfl ⟨hl.1, Nat.le_of_ble_eq_true rfl, Nat.le_of_ble_eq_true rfl, Nat.le_of_ble_eq_true rfl⟩ rfl dX0_back_46 (fun x67 μ68 H locs hf h => ?_)
            exact r_ri1 X h hag hr hlk (Nat.le_of_ble_eq_true rfl) (Nat.le_of_ble_eq_true rfl) dX0_back_49 hf
        · replace hf := gif_t hf hc
          clear hc
          refine lv_bipush (v := (-4)) X.hx X.hb dX0_back_32 (by decide) ?_
          exact r_ri1 X h hag hr hlk (Nat.le_of_ble_eq_true rfl) (Nat.le_of_ble_eq_true rfl) dX0_back_34 hf
      · replace hf := gif_t hf hc
        clear hc
        refine lv_iconst (v := (-1)) X.hx X.hb dX0_back_23 (by decide) ?_
        exact r_ri1 X h hag hr hlk (Nat.le_of_ble_eq_true rfl) (Nat.le_of_ble_eq_true rfl) dX0_back_24 hf
