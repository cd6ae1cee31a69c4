set_option maxRecDepth 100000
/-! X2_put -/
def fX2_put (μ0 : gM) (b0 : Nat) (a1 : Int32) (a2 : Int32) (a3 : Int32) : gR := cI (fX2_isText μ0 a1) fun x1 μ2 => if x1 = 0 then (some (some (.int (-1)), μ2)) else (gP (gfld μ2 b0 2 8) fun i3 => gaI μ2 0 i3 a1 fun x4 => if 0 ≤ x4 then (gP (gfld μ2 b0 2 8) fun i5 => gaI μ2 0 i5 a1 fun x6 => cI (fX2_in μ2 a2 0 (x6 - 1)) fun x7 μ8 => if x7 = 0 then (gis μ8 b0 2 <| cI (fX2_meets μ8 b0 2) fun x13 μ14 => some (some (.int x13), μ14)) else (gP (gfld μ8 b0 2 9) fun i9 => gaI μ8 1 i9 ((60 * a1) + a2) fun x10 => gP (gfld μ8 b0 2 9) fun i11 => gsI μ8 1 i11 ((60 * a1) + a2) (vp_nar .byte ((a3 : Int32).toInt8.toInt32)) fun μ12 => some (some (.int (1000 + x10)), μ12))) else (gis μ2 b0 2 <| cI (fX2_meets μ2 b0 1) fun x15 μ16 => some (some (.int x15), μ16)))
set_option maxHeartbeats 4000000 in
theorem wX2_put (l : Launch) (Γ : gG) (ad : Nat → Nat) (μ0 : gM) (b0 : Nat) (a1 : Int32) (a2 : Int32) (a3 : Int32) (r : Option Value × gM) (hf : fX2_put μ0 b0 a1 a2 a3 = some r) : gMt0 l Γ yX2_put (ws_ yX2_put cX2_put 5 (some .int)) ({ frames := 2, cells := 0, slots := 0, locals := 42 } : Room) 0 0 ad μ0 [.ref (ad b0), .int a1, .int a2, .int a3] r := by
  intro sz
  refine g_start (maxL := 5) (ret := (some .int)) (by decide) rfl g_all (Nat.le_of_ble_eq_true rfl) ?_
  intro p e s m below meth c ls hr hlk hnm X h hl
  generalize gA ad μ0 sz = A at X h ⊢
  generalize ([.ref (ad b0), .int a1, .int a2, .int a3] : List Value).toArray = args at X ⊢
  have X : gX p m c cX2_put 5 s args "SandPianoModel" Γ A := X
  have hl : lv_has ls 5 [(0, .ref (ad b0)), (1, .int a1), (2, .int a2), (3, .int a3)] := hl
  show W p l e ({ frames := 2, cells := 0, slots := 0, locals := 42 } : Room) s m args below meth c s.heap [] 0 0 (MQ below (gQ0 Γ ad μ0.1 r A) args s 0 0 A) (F0 m 0 ls [])
  unfold fX2_put at hf
  refine lv_iload_n X.hx X.hb dX2_put_0 rfl (lv_at hl 1 rfl) ?_
  refine r_cSI (As := [.int a1]) (rest := []) X h hf (fun res hres => wX2_isText l Γ ad _ a1 res hres) (va_cwS 1 X.hts (lw_S q1235 q1236 q84 q1237) rfl rfl rfl (by decide +kernel) ⟨Nat.le_of_ble_eq_true rfl, Nat.le_of_ble_eq_true rfl⟩) rfl ⟨hl.1, Nat.le_of_ble_eq_true rfl, Nat.le_of_ble_eq_true rfl, Nat.le_of_ble_eq_true rfl⟩ rfl dX2_put_1 (fun x1 μ2 H locs hf h => ?_)
  refine lv_if_ne (tgt := 9) X.hx X.hb dX2_put_4 (by decide) (fun hc => ?_) (fun hc => ?_)
  · replace hf := gif_f hf hc
    clear hc
    refine lv_aload_n X.hx X.hb dX2_put_9 rfl (lv_at hl 0 rfl) ?_
    refine r_getP X h (ci := 2) (k := 8) (C := RX2) (T := TX2) (N := 36) rfl in_X2 (by decide) q1067 rfl dX2_put_10 hf (fun i3 hf => ?_)
    refine lv_iload_n X.hx X.hb dX2_put_13 rfl (lv_at hl 1 rfl) ?_
    refine r_iald X h dX2_put_14 hf (fun x4 hf => ?_)
    refine lv_if_ge (tgt := 24) X.hx X.hb dX2_put_15 (by decide) (fun hc => ?_) (fun hc => ?_)
    · replace hf := gif_t hf hc
      clear hc
      refine lv_iload_n X.hx X.hb dX2_put_24 rfl (lv_at hl 2 rfl) ?_
      refine lv_iconst (v := 0) X.hx X.hb dX2_put_25 (by decide) ?_
      refine lv_aload_n X.hx X.hb dX2_put_26 rfl (lv_at hl 0 rfl) ?_
      refine r_getP X h (ci := 2) (k := 8) (C := RX2) (T := TX2) (N := 36) rfl in_X2 (by decide) q1067 rfl dX2_put_27 hf (fun i5 hf => ?_)
      refine lv_iload_n X.hx X.hb dX2_put_30 rfl (lv_at hl 1 rfl) ?_
      refine r_iald X h dX2_put_31 hf (fun x6 hf => ?_)
      refine lv_iconst (v := 1) X.hx X.hb dX2_put_32 (by decide) ?_
      refine lv_isub X.hx X.hb dX2_put_33 ?_
      refine r_cSI (As := [.int a2, .int 0, .int (x6 - 1)]) (rest := []) X h hf (fun res hres => wX2_in l Γ ad _ a2 0 (x6 - 1) res hres) (va_cwS 3 X.hts (lw_S q1177 q1178 q84 q1179) rfl rfl rfl (by decide +kernel) ⟨Nat.le_of_ble_eq_true rfl, Nat.le_of_ble_eq_true rfl⟩) rfl ⟨hl.1, Nat.le_of_ble_eq_true rfl, Nat.le_of_ble_eq_true rfl, Nat.le_of_ble_eq_true rfl⟩ rfl dX2_put_34 (fun x7 μ8 H locs hf h => ?_)
      refine lv_if_ne (tgt := 46) X.hx X.hb dX2_put_37 (by decide) (fun hc => ?_) (fun hc => ?_)
      · replace hf := gif_f hf hc
        clear hc
        refine lv_aload_n X.hx X.hb dX2_put_46 rfl (lv_at hl 0 rfl) ?_
        refine r_getP X h (ci := 2) (k := 9) (C := RX2) (T := TX2) (N := 36) rfl in_X2 (by decide) q1068 rfl dX2_put_47 hf (fun i9 hf => ?_)
        refine lv_bipush (v := 60) X.hx X.hb dX2_put_50 (by decide) ?_
        refine lv_iload_n X.hx X.hb dX2_put_52 rfl (lv_at hl 1 rfl) ?_
        refine lv_imul X.hx X.hb dX2_put_53 ?_
        refine lv_iload_n X.hx X.hb dX2_put_54 rfl (lv_at hl 2 rfl) ?_
        refine lv_iadd X.hx X.hb dX2_put_55 ?_
        refine r_bald X h dX2_put_56 hf (fun x10 hf => ?_)
        refine lv_istore (lv' := [(4, .int x10), (0, .ref (ad b0)), (1, .int a1), (2, .int a2), (3, .int a3)]) X.hx X.hb dX2_put_57 hl (by decide) rfl (fun ls hl => ?_)
        refine lv_aload_n X.hx X.hb dX2_put_59 rfl (lv_at hl 1 rfl) ?_
        refine r_getP X h (ci := 2) (k := 9) (C := RX2) (T := TX2) (N := 36) rfl in_X2 (by decide) q1068 rfl dX2_put_60 hf (fun i11 hf => ?_)
        refine lv_bipush (v := 60) X.hx X.hb dX2_put_63 (by decide) ?_
        refine lv_iload_n X.hx X.hb dX2_put_65 rfl (lv_at hl 2 rfl) ?_
        refine lv_imul X.hx X.hb dX2_put_66 ?_
        refine lv_iload_n X.hx X.hb dX2_put_67 rfl (lv_at hl 3 rfl) ?_
        refine lv_iadd X.hx X.hb dX2_put_68 ?_
        refine lv_iload_n X.hx X.hb dX2_put_69 rfl (lv_at hl 4 rfl) ?_
        refine lv_i2b X.hx X.hb dX2_put_70 rfl ?_
        refine r_bast X h dX2_put_71 hf (fun μ12 H locs hf h => ?_)
        refine lv_sipush (v := 1000) X.hx X.hb dX2_put_72 (by decide) ?_
        refine lv_iload X.hx X.hb dX2_put_75 (lv_at hl 0 rfl) ?_
        refine lv_iadd X.hx X.hb dX2_put_77 ?_
        exact r_ri X h hr hlk (Nat.le_of_ble_eq_true rfl) (Nat.le_of_ble_eq_true rfl) dX2_put_78 hf
      · replace hf := gif_t hf hc
        clear hc
        refine lv_aload_n X.hx X.hb dX2_put_40 rfl (lv_at hl 0 rfl) ?_
        refine lv_iconst (v := 2) X.hx X.hb dX2_put_41 (by decide) ?_
        refine r_cVI (As := [.int 2]) (rest := []) (C := RX2) (T := TX2) (N := 36) X h hf (fun res hres => wX2_meets l Γ ad _ b0 2 res hres) rfl (cwV 1 X.hts (lw_V q1199 q1201 qs38 q84 q1202) rfl rfl rfl (by decide +kernel) ⟨Nat.le_of_ble_eq_true rfl, Nat.le_of_ble_eq_true rfl⟩) rfl ⟨hl.1, Nat.le_of_ble_eq_true rfl, Nat.le_of_ble_eq_true rfl, Nat.le_of_ble_eq_true rfl⟩ rfl dX2_put_42 (fun x13 μ14 H locs hf h => ?_)
        exact r_ri X h hr hlk (Nat.le_of_ble_eq_true rfl) (Nat.le_of_ble_eq_true rfl) dX2_put_45 hf
    · replace hf := gif_f hf hc
      clear hc
      refine lv_aload_n X.hx X.hb dX2_put_18 rfl (lv_at hl 0 rfl) ?_
      refine lv_iconst (v := 1) X.hx X.hb dX2_put_19 (by decide) ?_
      refine r_cVI (As := [.int 1]) (rest := []) (C := RX2) (T := TX2) (N := 36) X h hf (fun res hres => wX2_meets l Γ ad _ b0 1 res hres) rfl (cwV 1 X.hts (lw_V q1199 q1201 qs38 q84 q1202) rfl rfl rfl (by decide +kernel) ⟨Nat.le_of_ble_eq_true rfl, Nat.le_of_ble_eq_true rfl⟩) rfl ⟨hl.1, Nat.le_of_ble_eq_true rfl, Nat.le_of_ble_eq_true rfl, Nat.le_of_ble_eq_true rfl⟩ rfl dX2_put_20 (fun x15 μ16 H locs hf h => ?_)
      exact r_ri X h hr hlk (Nat.le_of_ble_eq_true rfl) (Nat.le_of_ble_eq_true rfl) dX2_put_23 hf
  · replace hf := gif_t hf hc
    clear hc
    refine lv_iconst (v := (-1)) X.hx X.hb dX2_put_7 (by decide) ?_
    exact r_ri X h hr hlk (Nat.le_of_ble_eq_true rfl) (Nat.le_of_ble_eq_true rfl) dX2_put_8 hf
/-! X2_sings -/
def fX2_sings (μ0 : gM) (a1 : Int32) (a2 : Int32) : gR := cI (fX2_in μ0 (a1 - a2) (-1) 1) fun x1 μ2 => rZ x1 μ2
set_option maxHeartbeats 4000000 in
theorem wX2_sings (l : Launch) (Γ : gG) (ad : Nat → Nat) (μ0 : gM) (a1 : Int32) (a2 : Int32) (r : Option Value × gM) (hf : fX2_sings μ0 a1 a2 = some r) : gMt0 l Γ yX2_sings (ws_ yX2_sings cX2_sings 2 (some .boolean)) ({ frames := 1, cells := 0, slots := 0, locals := 22 } : Room) 0 0 ad μ0 [.int a1, .int a2] r := by
  intro sz
  refine g_start (maxL := 2) (ret := (some .boolean)) (by decide) rfl g_all (Nat.le_of_ble_eq_true rfl) ?_
  intro p e s m below meth c ls hr hlk hnm X h hl
  generalize gA ad μ0 sz = A at X h ⊢
  generalize ([.int a1, .int a2] : List Value).toArray = args at X ⊢
  have X : gX p m c cX2_sings 2 s args "SandPianoModel" Γ A := X
  have hl : lv_has ls 2 [(0, .int a1), (1, .int a2)] := hl
  show W p l e ({ frames := 1, cells := 0, slots := 0, locals := 22 } : Room) s m args below meth c s.heap [] 0 0 (MQ below (gQ0 Γ ad μ0.1 r A) args s 0 0 A) (F0 m 0 ls [])
  unfold fX2_sings at hf
  refine lv_iload_n X.hx X.hb dX2_sings_0 rfl (lv_at hl 0 rfl) ?_
  refine lv_iload_n X.hx X.hb dX2_sings_1 rfl (lv_at hl 1 rfl) ?_
  refine lv_isub X.hx X.hb dX2_sings_2 ?_
  refine lv_iconst (v := (-1)) X.hx X.hb dX2_sings_3 (by decide) ?_
  refine lv_iconst (v := 1) X.hx X.hb dX2_sings_4 (by decide) ?_
  refine r_cSI (As := [.int (a1 - a2), .int (-1), .int 1]) (rest := []) X h hf (fun res hres => wX2_in l Γ ad _ (a1 - a2) (-1) 1 res hres) (va_cwS 3 X.hts (lw_S q1177 q1178 q84 q1179) rfl rfl rfl (by decide +kernel) ⟨Nat.le_of_ble_eq_true rfl, Nat.le_of_ble_eq_true rfl⟩) rfl ⟨hl.1, Nat.le_of_ble_eq_true rfl, Nat.le_of_ble_eq_true rfl, Nat.le_of_ble_eq_true rfl⟩ rfl dX2_sings_5 (fun x1 μ2 H locs hf h => ?_)
  exact r_rz X h hr hlk (Nat.le_of_ble_eq_true rfl) (Nat.le_of_ble_eq_true rfl) dX2_sings_8 hf
/-! X2_underSet -/
def fX2_underSet_L18 (b0 : Nat) (a1 : Int32) (x1 : Int32) (x2 : Int32) (kx79 : Int32 → gM → gR) : Nat → Int32 → Int32 → gM → gR
  | 0, _, _, _ => none
  | n9 + 1, x6, x7, μ8 => gP (gfld μ8 b0 2 5) fun i10 => gaI μ8 0 i10 a1 fun x11 => if x11 ≤ x7 then (kx79 x6 μ8) else (gjn (fun (x12 : Int32) (μ13 : gM) => gnm (x7 + 2) fun x15 => fX2_underSet_L18 b0 a1 x1 x2 kx79 n9 x12 x15 μ13) fun j14 => gjn (fun  (μ16 : gM) => j14 0 μ16) fun j17 => if x6 = 0 then (j17 μ8) else (gis μ8 b0 2 <| cI (fX2_rowAt μ8 b0 a1 x7) fun x18 μ19 => cI (fX2_sings μ19 x18 x2) fun x20 μ21 => gis μ21 b0 2 <| cI (fX2_rowAt μ21 b0 a1 (x7 + 1)) fun x22 μ23 => gjn (fun (x24 : Int32) (μ25 : gM) => if x20 = x24 then (j14 1 μ25) else (j17 μ25)) fun j26 => if x22 = 1 then (j26 1 μ23) else (j26 0 μ23)))
set_option maxHeartbeats 4000000 in
theorem wX2_underSet_L18 {p : Program} {e : Env} {s : State} {m : MethodId} {args : Array Value} {below : List Frame} {meth : Method} {c : Code} {Γ : gG} {A : Nat → Prop} {nz : Nat} {ad : Nat → Nat} {r : Option Value × gM} (l : Launch) (b0 : Nat) (a1 : Int32) (x1 : Int32) (x2 : Int32) (kx79 : Int32 → gM → gR) (X : gX p m c cX2_underSet 6 s args "SandPianoModel" Γ A) (hr : meth.sig.returnType = (some .int)) (hlk : meth.locks = false) (hk79 : ∀ (x27 : Int32) (μ : gM) (H : Heap) (locs : List Loc) (ls : Array Slot), kx79 x27 μ = some r → gWd Γ A nz ad μ s.heap H locs → lv_has ls 6 [(0, .ref (ad b0)), (1, .int a1), (2, .int x1), (3, .int x2), (4, .int x27)] → W p l e ({ frames := 2, cells := 0, slots := 0, locals := 43 } : Room) s m args below meth c H locs 0 0 (MQ below (gQ0 Γ ad nz r A) args s 0 0 A) (F0 m 79 ls [])) : ∀ (n9 : Nat) (x6 : Int32) (x7 : Int32) (μ8 : gM) (H : Heap) (locs : List Loc) (ls : Array Slot), fX2_underSet_L18 b0 a1 x1 x2 kx79 n9 x6 x7 μ8 = some r → gWd Γ A nz ad μ8 s.heap H locs → lv_has ls 6 [(0, .ref (ad b0)), (1, .int a1), (2, .int x1), (3, .int x2), (4, .int x6), (5, .int x7)] → W p l e ({ frames := 2, cells := 0, slots := 0, locals := 43 } : Room) s m args below meth c H locs 0 0 (MQ below (gQ0 Γ ad nz r A) args s 0 0 A) (F0 m 18 ls []) := by
  intro n9
  induction n9 with
  | zero =>
    intro x6 x7 μ8 H locs ls hf h hl
    have hf : (none : gR) = some r := hf
    cases hf
  | succ n9 ih =>
    intro x6 x7 μ8 H locs ls hf h hl
    rw [fX2_underSet_L18] at hf
    refine lv_iload X.hx X.hb dX2_underSet_18 (lv_at hl 5 rfl) ?_
    refine lv_aload_n X.hx X.hb dX2_underSet_20 rfl (lv_at hl 0 rfl) ?_
    refine r_getP X h (ci := 2) (k := 5) (C := RX2) (T := TX2) (N := 36) rfl in_X2 (by decide) q1064 rfl dX2_underSet_21 hf (fun i10 hf => ?_)
    refine lv_iload_n X.hx X.hb dX2_underSet_24 rfl (lv_at hl 1 rfl) ?_
    refine r_iald X h dX2_underSet_25 hf (fun x11 hf => ?_)
    refine lv_icmp_ge (tgt := 79) X.hx X.hb dX2_underSet_26 (by decide) (fun hc => ?_) (fun hc => ?_)
    · replace hf := gif_t hf hc
      clear hc
      exact hk79 _ _ _ _ _ hf h (lv_sub hl [0, 1, 2, 3, 4] rfl)
    · replace hf := gif_f hf hc
      clear hc
      refine lv_iload X.hx X.hb dX2_underSet_29 (lv_at hl 4 rfl) ?_
      refine r_jn hf (fun j14 ej14 hf => ?_)
      have hj14 : ∀ (x12 : Int32) (μ13 : gM) (H : Heap) (locs : List Loc) (ls : Array Slot), j14 x12 μ13 = some r → gWd Γ A nz ad μ13 s.heap H locs → lv_has ls 6 [(0, .ref (ad b0)), (1, .int a1), (2, .int x1), (3, .int x2), (5, .int x7)] → W p l e ({ frames := 2, cells := 0, slots := 0, locals := 43 } : Room) s m args below meth c H locs 0 0 (MQ below (gQ0 Γ ad nz r A) args s 0 0 A) (F0 m 71 ls [.int x12]) := by
        intro x12 μ13 H locs ls hf h hl
        rw [ej14] at hf
        refine lv_istore (lv' := [(4, .int x12), (0, .ref (ad b0)), (1, .int a1), (2, .int x1), (3, .int x2), (5, .int x7)]) X.hx X.hb dX2_underSet_71 hl (by decide) rfl (fun ls hl => ?_)
        refine r_nmk hf (fun x15 ex hf => ?_)
        refine lv_iinc (v := x15) (lv' := [(5, .int x15), (4, .int x12), (0, .ref (ad b0)), (1, .int a1), (2, .int x1), (3, .int x2)]) X.hx X.hb dX2_underSet_73 hl (k := 5) rfl (by rw [ex]; rfl) (by decide) rfl (fun ls hl => ?_)
        clear ex
        refine lv_goto (tgt := 18) X.hx X.hb dX2_underSet_76 (by decide) ?_
        exact ih _ _ _ _ _ _ hf h (lv_sub hl [2, 3, 4, 5, 1, 0] rfl)
      clear ej14
      refine r_jn hf (fun j17 ej17 hf => ?_)
      have hj17 : ∀  (μ16 : gM) (H : Heap) (locs : List Loc) (ls : Array Slot), j17  μ16 = some r → gWd Γ A nz ad μ16 s.heap H locs → lv_has ls 6 [(0, .ref (ad b0)), (1, .int a1), (2, .int x1), (3, .int x2), (5, .int x7)] → W p l e ({ frames := 2, cells := 0, slots := 0, locals := 43 } : Room) s m args below meth c H locs 0 0 (MQ below (gQ0 Γ ad nz r A) args s 0 0 A) (F0 m 70 ls []) := by
        intro μ16 H locs ls hf h hl
        rw [ej17] at hf
        refine lv_iconst (v := 0) X.hx X.hb dX2_underSet_70 (by decide) ?_
        exact hj14 _ _ _ _ _ hf h (lv_sub hl [0, 1, 2, 3, 4] rfl)
      clear ej17
      refine lv_if_eq (tgt := 70) X.hx X.hb dX2_underSet_31 (by decide) (fun hc => ?_) (fun hc => ?_)
      · replace hf := gif_t hf hc
        clear hc
        exact hj17 _ _ _ _ hf h (lv_sub hl [0, 1, 2, 3, 5] rfl)
      · replace hf := gif_f hf hc
        clear hc
        refine lv_aload_n X.hx X.hb dX2_underSet_34 rfl (lv_at hl 0 rfl) ?_
        refine lv_iload_n X.hx X.hb dX2_underSet_35 rfl (lv_at hl 1 rfl) ?_
        refine lv_iload X.hx X.hb dX2_underSet_36 (lv_at hl 5 rfl) ?_
        refine r_cVI (As := [.int a1, .int x7]) (rest := []) (C := RX2) (T := TX2) (N := 36) X h hf (fun res hres => wX2_rowAt l Γ ad _ b0 a1 x7 res hres) rfl (cwV 2 X.hts (lw_V q1207 q1209 qs39 q84 q1210) rfl rfl rfl (by decide +kernel) ⟨Nat.le_of_ble_eq_true rfl, Nat.le_of_ble_eq_true rfl⟩) rfl ⟨hl.1, Nat.le_of_ble_eq_true rfl, Nat.le_of_ble_eq_true rfl, Nat.le_of_ble_eq_true rfl⟩ rfl dX2_underSet_38 (fun x18 μ19 H locs hf h => ?_)
        refine lv_iload_n X.hx X.hb dX2_underSet_41 rfl (lv_at hl 3 rfl) ?_
        refine r_cSI (As := [.int x18, .int x2]) (rest := []) X h hf (fun res hres => wX2_sings l Γ ad _ x18 x2 res hres) (va_cwS 2 X.hts (lw_S q1489 q1490 q84 q1491) rfl rfl rfl (by decide +kernel) ⟨Nat.le_of_ble_eq_true rfl, Nat.le_of_ble_eq_true rfl⟩) rfl ⟨hl.1, Nat.le_of_ble_eq_true rfl, Nat.le_of_ble_eq_true rfl, Nat.le_of_ble_eq_true rfl⟩ rfl dX2_underSet_42 (fun x20 μ21 H locs hf h => ?_)
        refine lv_aload_n X.hx X.hb dX2_underSet_45 rfl (lv_at hl 0 rfl) ?_
        refine lv_iload_n X.hx X.hb dX2_underSet_46 rfl (lv_at hl 1 rfl) ?_
        refine lv_iload X.hx X.hb dX2_underSet_47 (lv_at hl 5 rfl) ?_
        refine lv_iconst (v := 1) X.hx X.hb dX2_underSet_49 (by decide) ?_
        refine lv_iadd X.hx X.hb dX2_underSet_50 ?_
        refine r_cVI (As := [.int a1, .int (x7 + 1)]) (rest := [.int x20]) (C := RX2) (T := TX2) (N := 36) X h hf (fun res hres => wX2_rowAt l Γ ad _ b0 a1 (x7 + 1) res hres) rfl (cwV 2 X.hts (lw_V q1207 q1209 qs39 q84 q1210) rfl rfl rfl (by decide +kernel) ⟨Nat.le_of_ble_eq_true rfl, Nat.le_of_ble_eq_true rfl⟩) rfl ⟨hl.1, Nat.le_of_ble_eq_true rfl, Nat.le_of_ble_eq_true rfl, Nat.le_of_ble_eq_true rfl⟩ rfl dX2_underSet_51 (fun x22 μ23 H locs hf h => ?_)
        refine lv_iconst (v := 1) X.hx X.hb dX2_underSet_54 (by decide) ?_
        refine r_jn hf (fun j26 ej26 hf => ?_)
        have hj26 : ∀ (x24 : Int32) (μ25 : gM) (H : Heap) (locs : List Loc) (ls : Array Slot), j26 x24 μ25 = some r → gWd Γ A nz ad μ25 s.heap H locs → lv_has ls 6 [(0, .ref (ad b0)), (1, .int a1), (2, .int x1), (3, .int x2), (5, .int x7)] → W p l e ({ frames := 2, cells := 0, slots := 0, locals := 43 } : Room) s m args below meth c H locs 0 0 (MQ below (gQ0 Γ ad nz r A) args s 0 0 A) (F0 m 63 ls [.int x24, .int x20]) := by
          intro x24 μ25 H locs ls hf h hl
          rw [ej26] at hf
          refine lv_icmp_ne (tgt := 70) X.hx X.hb dX2_underSet_63 (by decide) (fun hc => ?_) (fun hc => ?_)
          · replace hf := gif_f hf hc
            clear hc
            exact hj17 _ _ _ _ hf h (lv_sub hl [0, 1, 2, 3, 4] rfl)
          · replace hf := gif_t hf hc
            clear hc
            refine lv_iconst (v := 1) X.hx X.hb dX2_underSet_66 (by decide) ?_
            refine lv_goto (tgt := 71) X.hx X.hb dX2_underSet_67 (by decide) ?_
            exact hj14 _ _ _ _ _ hf h (lv_sub hl [0, 1, 2, 3, 4] rfl)
        clear ej26
        refine lv_icmp_ne (tgt := 62) X.hx X.hb dX2_underSet_55 (by decide) (fun hc => ?_) (fun hc => ?_)
        · replace hf := gif_f hf hc
          clear hc
          refine lv_iconst (v := 0) X.hx X.hb dX2_underSet_62 (by decide) ?_
          exact hj26 _ _ _ _ _ hf h (lv_sub hl [0, 1, 2, 3, 5] rfl)
        · replace hf := gif_t hf hc
          clear hc
          refine lv_iconst (v := 1) X.hx X.hb dX2_underSet_58 (by decide) ?_
          refine lv_goto (tgt := 63) X.hx X.hb dX2_underSet_59 (by decide) ?_
          exact hj26 _ _ _ _ _ hf h (lv_sub hl [0, 1, 2, 3, 5] rfl)
def fX2_underSet_L4 (b0 : Nat) (a1 : Int32) : Nat → Int32 → Int32 → gM → gR
  | 0, _, _, _ => none
  | n4 + 1, x1, x2, μ3 => gI (gfld μ3 b0 2 11) fun x5 => if x5 ≤ x2 then (some (some (.int x1), μ3)) else (fX2_underSet_L18 b0 a1 x1 x2 (fun (x28 : Int32) (μ29 : gM) => gjn (fun (x30 : Int32) (μ31 : gM) => gnm ((x1 ||| x30)) fun x33 => gnm (x2 + 1) fun x34 => fX2_underSet_L4 b0 a1 n4 x33 x34 μ31) fun j32 => if x28 = 0 then (j32 0 μ29) else (j32 (1 <<< (x2 &&& 31)) μ29)) 10000 1 0 μ3)
set_option maxHeartbeats 4000000 in
theorem wX2_underSet_L4 {p : Program} {e : Env} {s : State} {m : MethodId} {args : Array Value} {below : List Frame} {meth : Method} {c : Code} {Γ : gG} {A : Nat → Prop} {nz : Nat} {ad : Nat → Nat} {r : Option Value × gM} (l : Launch) (b0 : Nat) (a1 : Int32) (X : gX p m c cX2_underSet 6 s args "SandPianoModel" Γ A) (hr : meth.sig.returnType = (some .int)) (hlk : meth.locks = false) : ∀ (n4 : Nat) (x1 : Int32) (x2 : Int32) (μ3 : gM) (H : Heap) (locs : List Loc) (ls : Array Slot), fX2_underSet_L4 b0 a1 n4 x1 x2 μ3 = some r → gWd Γ A nz ad μ3 s.heap H locs → lv_has ls 6 [(0, .ref (ad b0)), (1, .int a1), (2, .int x1), (3, .int x2)] → W p l e ({ frames := 2, cells := 0, slots := 0, locals := 43 } : Room) s m args below meth c H locs 0 0 (MQ below (gQ0 Γ ad nz r A) args s 0 0 A) (F0 m 4 ls []) := by
  intro n4
  induction n4 with
  | zero =>
    intro x1 x2 μ3 H locs ls hf h hl
    have hf : (none : gR) = some r := hf
    cases hf
  | succ n4 ih =>
    intro x1 x2 μ3 H locs ls hf h hl
    rw [fX2_underSet_L4] at hf
    refine lv_iload_n X.hx X.hb dX2_underSet_4 rfl (lv_at hl 3 rfl) ?_
    refine lv_aload_n X.hx X.hb dX2_underSet_5 rfl (lv_at hl 0 rfl) ?_
    refine r_getI X h (ci := 2) (k := 11) (C := RX2) (T := TX2) (N := 36) rfl in_X2 (by decide) q1070 rfl dX2_underSet_6 hf (fun x5 hf => ?_)
    refine lv_icmp_ge (tgt := 100) X.hx X.hb dX2_underSet_9 (by decide) (fun hc => ?_) (fun hc => ?_)
    · replace hf := gif_t hf hc
      clear hc
      refine lv_iload_n X.hx X.hb dX2_underSet_100 rfl (lv_at hl 2 rfl) ?_
      exact r_ri X h hr hlk (Nat.le_of_ble_eq_true rfl) (Nat.le_of_ble_eq_true rfl) dX2_underSet_101 hf
    · replace hf := gif_f hf hc
      clear hc
      refine lv_iconst (v := 1) X.hx X.hb dX2_underSet_12 (by decide) ?_
      refine lv_istore (lv' := [(4, .int 1), (0, .ref (ad b0)), (1, .int a1), (2, .int x1), (3, .int x2)]) X.hx X.hb dX2_underSet_13 hl (by decide) rfl (fun ls hl => ?_)
      refine lv_iconst (v := 0) X.hx X.hb dX2_underSet_15 (by decide) ?_
      refine lv_istore (lv' := [(5, .int 0), (4, .int 1), (0, .ref (ad b0)), (1, .int a1), (2, .int x1), (3, .int x2)]) X.hx X.hb dX2_underSet_16 hl (by decide) rfl (fun ls hl => ?_)
      refine wX2_underSet_L18 l b0 a1 x1 x2 _ X hr hlk (fun x28 μ29 H locs ls hf h hl => ?_) 10000 _ _ _ _ _ _ hf h (lv_sub hl [2, 3, 4, 5, 1, 0] rfl)
      refine lv_iload_n X.hx X.hb dX2_underSet_79 rfl (lv_at hl 2 rfl) ?_
      refine lv_iload X.hx X.hb dX2_underSet_80 (lv_at hl 4 rfl) ?_
      refine r_jn hf (fun j32 ej32 hf => ?_)
      have hj32 : ∀ (x30 : Int32) (μ31 : gM) (H : Heap) (locs : List Loc) (ls : Array Slot), j32 x30 μ31 = some r → gWd Γ A nz ad μ31 s.heap H locs → lv_has ls 6 [(0, .ref (ad b0)), (1, .int a1), (3, .int x2)] → W p l e ({ frames := 2, cells := 0, slots := 0, locals := 43 } : Room) s m args below meth c H locs 0 0 (MQ below (gQ0 Γ ad nz r A) args s 0 0 A) (F0 m 92 ls [.int x30, .int x1]) := by
        intro x30 μ31 H locs ls hf h hl
        rw [ej32] at hf
        refine lv_ior X.hx X.hb dX2_underSet_92 ?_
        refine r_nmI hf (fun x33 hf => ?_)
        refine lv_istore_n (lv' := [(2, .int x33), (0, .ref (ad b0)), (1, .int a1), (3, .int x2)]) X.hx X.hb dX2_underSet_93 rfl hl (by decide) rfl (fun ls hl => ?_)
        refine r_nmk hf (fun x34 ex hf => ?_)
        refine lv_iinc (v := x34) (lv' := [(3, .int x34), (2, .int x33), (0, .ref (ad b0)), (1, .int a1)]) X.hx X.hb dX2_underSet_94 hl (k := 3) rfl (by rw [ex]; rfl) (by decide) rfl (fun ls hl => ?_)
        clear ex
        refine lv_goto (tgt := 4) X.hx X.hb dX2_underSet_97 (by decide) ?_
        exact ih _ _ _ _ _ _ hf h (lv_sub hl [2, 3, 1, 0] rfl)
      clear ej32
      refine lv_if_eq (tgt := 91) X.hx X.hb dX2_underSet_82 (by decide) (fun hc => ?_) (fun hc => ?_)
      · replace hf := gif_t hf hc
        clear hc
        refine lv_iconst (v := 0) X.hx X.hb dX2_underSet_91 (by decide) ?_
        exact hj32 _ _ _ _ _ hf h (lv_sub hl [0, 1, 3] rfl)
      · replace hf := gif_f hf hc
        clear hc
        refine lv_iconst (v := 1) X.hx X.hb dX2_underSet_85 (by decide) ?_
        refine lv_iload_n X.hx X.hb dX2_underSet_86 rfl (lv_at hl 3 rfl) ?_
        refine lv_ishl X.hx X.hb dX2_underSet_87 ?_
        refine lv_goto (tgt := 92) X.hx X.hb dX2_underSet_88 (by decide) ?_
        exact hj32 _ _ _ _ _ hf h (lv_sub hl [0, 1, 3] rfl)
def fX2_underSet (μ0 : gM) (b0 : Nat) (a1 : Int32) : gR := fX2_underSet_L4 b0 a1 10000 0 0 μ0
set_option maxHeartbeats 4000000 in
theorem wX2_underSet (l : Launch) (Γ : gG) (ad : Nat → Nat) (μ0 : gM) (b0 : Nat) (a1 : Int32) (r : Option Value × gM) (hf : fX2_underSet μ0 b0 a1 = some r) : gMt0 l Γ yX2_underSet (ws_ yX2_underSet cX2_underSet 6 (some .int)) ({ frames := 2, cells := 0, slots := 0, locals := 43 } : Room) 0 0 ad μ0 [.ref (ad b0), .int a1] r := by
  intro sz
  refine g_start (maxL := 6) (ret := (some .int)) (by decide) rfl g_all (Nat.le_of_ble_eq_true rfl) ?_
  intro p e s m below meth c ls hr hlk hnm X h hl
  generalize gA ad μ0 sz = A at X h ⊢
  generalize ([.ref (ad b0), .int a1] : List Value).toArray = args at X ⊢
  have X : gX p m c cX2_underSet 6 s args "SandPianoModel" Γ A := X
  have hl : lv_has ls 6 [(0, .ref (ad b0)), (1, .int a1)] := hl
  show W p l e ({ frames := 2, cells := 0, slots := 0, locals := 43 } : Room) s m args below meth c s.heap [] 0 0 (MQ below (gQ0 Γ ad μ0.1 r A) args s 0 0 A) (F0 m 0 ls [])
  unfold fX2_underSet at hf
  refine lv_iconst (v := 0) X.hx X.hb dX2_underSet_0 (by decide) ?_
  refine lv_istore_n (lv' := [(2, .int 0), (0, .ref (ad b0)), (1, .int a1)]) X.hx X.hb dX2_underSet_1 rfl hl (by decide) rfl (fun ls hl => ?_)
  refine lv_iconst (v := 0) X.hx X.hb dX2_underSet_2 (by decide) ?_
  refine lv_istore_n (lv' := [(3, .int 0), (2, .int 0), (0, .ref (ad b0)), (1, .int a1)]) X.hx X.hb dX2_underSet_3 rfl hl (by decide) rfl (fun ls hl => ?_)
  refine wX2_underSet_L4 l b0 a1 X hr hlk 10000 _ _ _ _ _ _ hf h (lv_sub hl [2, 3, 1, 0] rfl)
/-! X2_ring -/
def fX2_ring (μ0 : gM) (b0 : Nat) (a1 : Int32) : gR := cI (fX2_isRow μ0 a1) fun x1 μ2 => if x1 = 0 then (some (some (.int (-1)), μ2)) else (gis μ2 b0 2 <| cI (fX2_needPairs μ2 b0 a1) fun x3 μ4 => if 0 ≤ x3 then (gis μ4 b0 2 <| cI (fX2_underSet μ4 b0 a1) fun x5 μ6 => some (some (.int x5), μ6)) else (some (some (.int x3), μ4)))
set_option maxHeartbeats 4000000 in
theorem wX2_ring (l : Launch) (Γ : gG) (ad : Nat → Nat) (μ0 : gM) (b0 : Nat) (a1 : Int32) (r : Option Value × gM) (hf : fX2_ring μ0 b0 a1 = some r) : gMt0 l Γ yX2_ring (ws_ yX2_ring cX2_ring 3 (some .int)) ({ frames := 3, cells := 0, slots := 0, locals := 68 } : Room) 0 0 ad μ0 [.ref (ad b0), .int a1] r := by
  intro sz
  refine g_start (maxL := 3) (ret := (some .int)) (by decide) rfl g_all (Nat.le_of_ble_eq_true rfl) ?_
  intro p e s m below meth c ls hr hlk hnm X h hl
  generalize gA ad μ0 sz = A at X h ⊢
  generalize ([.ref (ad b0), .int a1] : List Value).toArray = args at X ⊢
  have X : gX p m c cX2_ring 3 s args "SandPianoModel" Γ A := X
  have hl : lv_has ls 3 [(0, .ref (ad b0)), (1, .int a1)] := hl
  show W p l e ({ frames := 3, cells := 0, slots := 0, locals := 68 } : Room) s m args below meth c s.heap [] 0 0 (MQ below (gQ0 Γ ad μ0.1 r A) args s 0 0 A) (F0 m 0 ls [])
  unfold fX2_ring at hf
  refine lv_iload_n X.hx X.hb dX2_ring_0 rfl (lv_at hl 1 rfl) ?_
  refine r_cSI (As := [.int a1]) (rest := []) X h hf (fun res hres => wX2_isRow l Γ ad _ a1 res hres) (va_cwS 1 X.hts (lw_S q1196 q1197 q84 q1198) rfl rfl rfl (by decide +kernel) ⟨Nat.le_of_ble_eq_true rfl, Nat.le_of_ble_eq_true rfl⟩) rfl ⟨hl.1, Nat.le_of_ble_eq_true rfl, Nat.le_of_ble_eq_true rfl, Nat.le_of_ble_eq_true rfl⟩ rfl dX2_ring_1 (fun x1 μ2 H locs hf h => ?_)
  refine lv_if_ne (tgt := 9) X.hx X.hb dX2_ring_4 (by decide) (fun hc => ?_) (fun hc => ?_)
  · replace hf := gif_f hf hc
    clear hc
    refine lv_aload_n X.hx X.hb dX2_ring_9 rfl (lv_at hl 0 rfl) ?_
    refine lv_iload_n X.hx X.hb dX2_ring_10 rfl (lv_at hl 1 rfl) ?_
    refine r_cVI (As := [.int a1]) (rest := []) (C := RX2) (T := TX2) (N := 36) X h hf (fun res hres => wX2_needPairs l Γ ad _ b0 a1 res hres) rfl (cwV 1 X.hts (lw_V q1481 q1483 qs74 q84 q1484) rfl rfl rfl (by decide +kernel) ⟨Nat.le_of_ble_eq_true rfl, Nat.le_of_ble_eq_true rfl⟩) rfl ⟨hl.1, Nat.le_of_ble_eq_true rfl, Nat.le_of_ble_eq_true rfl, Nat.le_of_ble_eq_true rfl⟩ rfl dX2_ring_11 (fun x3 μ4 H locs hf h => ?_)
    refine lv_istore_n (lv' := [(2, .int x3), (0, .ref (ad b0)), (1, .int a1)]) X.hx X.hb dX2_ring_14 rfl hl (by decide) rfl (fun ls hl => ?_)
    refine lv_iload_n X.hx X.hb dX2_ring_15 rfl (lv_at hl 0 rfl) ?_
    refine lv_if_ge (tgt := 23) X.hx X.hb dX2_ring_16 (by decide) (fun hc => ?_) (fun hc => ?_)
    · replace hf := gif_t hf hc
      clear hc
      refine lv_aload_n X.hx X.hb dX2_ring_23 rfl (lv_at hl 1 rfl) ?_
      refine lv_iload_n X.hx X.hb dX2_ring_24 rfl (lv_at hl 2 rfl) ?_
      refine r_cVI (As := [.int a1]) (rest := []) (C := RX2) (T := TX2) (N := 36) X h hf (fun res hres => wX2_underSet l Γ ad _ b0 a1 res hres) rfl (cwV 1 X.hts (lw_V q1485 q1487 qs75 q84 q1488) rfl rfl rfl (by decide +kernel) ⟨Nat.le_of_ble_eq_true rfl, Nat.le_of_ble_eq_true rfl⟩) rfl ⟨hl.1, Nat.le_of_ble_eq_true rfl, Nat.le_of_ble_eq_true rfl, Nat.le_of_ble_eq_true rfl⟩ rfl dX2_ring_25 (fun x5 μ6 H locs hf h => ?_)
      exact r_ri X h hr hlk (Nat.le_of_ble_eq_true rfl) (Nat.le_of_ble_eq_true rfl) dX2_ring_28 hf
    · replace hf := gif_f hf hc
      clear hc
      refine lv_iload_n X.hx X.hb dX2_ring_19 rfl (lv_at hl 0 rfl) ?_
      refine lv_goto (tgt := 28) X.hx X.hb dX2_ring_20 (by decide) ?_
      exact r_ri X h hr hlk (Nat.le_of_ble_eq_true rfl) (Nat.le_of_ble_eq_true rfl) dX2_ring_28 hf
  · replace hf := gif_t hf hc
    clear hc
    refine lv_iconst (v := (-1)) X.hx X.hb dX2_ring_7 (by decide) ?_
    exact r_ri X h hr hlk (Nat.le_of_ble_eq_true rfl) (Nat.le_of_ble_eq_true rfl) dX2_ring_8 hf
/-! X2_row -/
def fX2_row_L34 (b0 : Nat) (a1 : Int32) (a2 : Int32) : Nat → Int32 → gM → gR
  | 0, _, _ => none
  | n7 + 1, x5, μ6 => if 40 ≤ x5 then (some (some (.int a2), μ6)) else (gP (gfld μ6 b0 2 6) fun i8 => gsI μ6 0 i8 ((40 * a1) + x5) 0 fun μ9 => gnm (x5 + 1) fun x10 => fX2_row_L34 b0 a1 a2 n7 x10 μ9)
set_option maxHeartbeats 4000000 in
theorem wX2_row_L34 {p : Program} {e : Env} {s : State} {m : MethodId} {args : Array Value} {below : List Frame} {meth : Method} {c : Code} {Γ : gG} {A : Nat → Prop} {nz : Nat} {ad : Nat → Nat} {r : Option Value × gM} (l : Launch) (b0 : Nat) (a1 : Int32) (a2 : Int32) (X : gX p m c cX2_row 4 s args "SandPianoModel" Γ A) (hr : meth.sig.returnType = (some .int)) (hlk : meth.locks = false) : ∀ (n7 : Nat) (x5 : Int32) (μ6 : gM) (H : Heap) (locs : List Loc) (ls : Array Slot), fX2_row_L34 b0 a1 a2 n7 x5 μ6 = some r → gWd Γ A nz ad μ6 s.heap H locs → lv_has ls 4 [(0, .ref (ad b0)), (1, .int a1), (2, .int a2), (3, .int x5)] → W p l e ({ frames := 2, cells := 0, slots := 0, locals := 42 } : Room) s m args below meth c H locs 0 0 (MQ below (gQ0 Γ ad nz r A) args s 0 0 A) (F0 m 34 ls []) := by
  intro n7
  induction n7 with
  | zero =>
    intro x5 μ6 H locs ls hf h hl
    have hf : (none : gR) = some r := hf
    cases hf
  | succ n7 ih =>
    intro x5 μ6 H locs ls hf h hl
    rw [fX2_row_L34] at hf
    refine lv_iload_n X.hx X.hb dX2_row_34 rfl (lv_at hl 3 rfl) ?_
    refine lv_bipush (v := 40) X.hx X.hb dX2_row_35 (by decide) ?_
    refine lv_icmp_ge (tgt := 58) X.hx X.hb dX2_row_37 (by decide) (fun hc => ?_) (fun hc => ?_)
    · replace hf := gif_t hf hc
      clear hc
      refine lv_iload_n X.hx X.hb dX2_row_58 rfl (lv_at hl 2 rfl) ?_
      exact r_ri X h hr hlk (Nat.le_of_ble_eq_true rfl) (Nat.le_of_ble_eq_true rfl) dX2_row_59 hf
    · replace hf := gif_f hf hc
      clear hc
      refine lv_aload_n X.hx X.hb dX2_row_40 rfl (lv_at hl 0 rfl) ?_
      refine r_getP X h (ci := 2) (k := 6) (C := RX2) (T := TX2) (N := 36) rfl in_X2 (by decide) q1065 rfl dX2_row_41 hf (fun i8 hf => ?_)
      refine lv_bipush (v := 40) X.hx X.hb dX2_row_44 (by decide) ?_
      refine lv_iload_n X.hx X.hb dX2_row_46 rfl (lv_at hl 1 rfl) ?_
      refine lv_imul X.hx X.hb dX2_row_47 ?_
      refine lv_iload_n X.hx X.hb dX2_row_48 rfl (lv_at hl 3 rfl) ?_
      refine lv_iadd X.hx X.hb dX2_row_49 ?_
      refine lv_iconst (v := 0) X.hx X.hb dX2_row_50 (by decide) ?_
      refine r_iast X h dX2_row_51 hf (fun μ9 H locs hf h => ?_)
      refine r_nmk hf (fun x10 ex hf => ?_)
      refine lv_iinc (v := x10) (lv' := [(3, .int x10), (0, .ref (ad b0)), (1, .int a1), (2, .int a2)]) X.hx X.hb dX2_row_52 hl (k := 3) rfl (by rw [ex]; rfl) (by decide) rfl (fun ls hl => ?_)
      clear ex
      refine lv_goto (tgt := 34) X.hx X.hb dX2_row_55 (by decide) ?_
      exact ih _ _ _ _ _ hf h (lv_sub hl [1, 2, 3, 0] rfl)
def fX2_row (μ0 : gM) (b0 : Nat) (a1 : Int32) (a2 : Int32) : gR := cI (fX2_isRow μ0 a1) fun x1 μ2 => if x1 = 0 then (some (some (.int (-1)), μ2)) else (if a2 ≤ 40 then (if 0 ≤ a2 then (gP (gfld μ2 b0 2 5) fun i3 => gsI μ2 0 i3 a1 a2 fun μ4 => fX2_row_L34 b0 a1 a2 10000 0 μ4) else (gis μ2 b0 2 <| cI (fX2_meets μ2 b0 5) fun x11 μ12 => some (some (.int x11), μ12))) else (some (some (.int (-1)), μ2)))
set_option maxHeartbeats 4000000 in
theorem wX2_row (l : Launch) (Γ : gG) (ad : Nat → Nat) (μ0 : gM) (b0 : Nat) (a1 : Int32) (a2 : Int32) (r : Option Value × gM) (hf : fX2_row μ0 b0 a1 a2 = some r) : gMt0 l Γ yX2_row (ws_ yX2_row cX2_row 4 (some .int)) ({ frames := 2, cells := 0, slots := 0, locals := 42 } : Room) 0 0 ad μ0 [.ref (ad b0), .int a1, .int a2] r := by
  intro sz
  refine g_start (maxL := 4) (ret := (some .int)) (by decide) rfl g_all (Nat.le_of_ble_eq_true rfl) ?_
  intro p e s m below meth c ls hr hlk hnm X h hl
  generalize gA ad μ0 sz = A at X h ⊢
  generalize ([.ref (ad b0), .int a1, .int a2] : List Value).toArray = args at X ⊢
  have X : gX p m c cX2_row 4 s args "SandPianoModel" Γ A := X
  have hl : lv_has ls 4 [(0, .ref (ad b0)), (1, .int a1), (2, .int a2)] := hl
  show W p l e ({ frames := 2, cells := 0, slots := 0, locals := 42 } : Room) s m args below meth c s.heap [] 0 0 (MQ below (gQ0 Γ ad μ0.1 r A) args s 0 0 A) (F0 m 0 ls [])
  unfold fX2_row at hf
  refine lv_iload_n X.hx X.hb dX2_row_0 rfl (lv_at hl 1 rfl) ?_
  refine r_cSI (As := [.int a1]) (rest := []) X h hf (fun res hres => wX2_isRow l Γ ad _ a1 res hres) (va_cwS 1 X.hts (lw_S q1196 q1197 q84 q1198) rfl rfl rfl (by decide +kernel) ⟨Nat.le_of_ble_eq_true rfl, Nat.le_of_ble_eq_true rfl⟩) rfl ⟨hl.1, Nat.le_of_ble_eq_true rfl, Nat.le_of_ble_eq_true rfl, Nat.le_of_ble_eq_true rfl⟩ rfl dX2_row_1 (fun x1 μ2 H locs hf h => ?_)
  refine lv_if_eq (tgt := 13) X.hx X.hb dX2_row_4 (by decide) (fun hc => ?_) (fun hc => ?_)
  · replace hf := gif_t hf hc
    clear hc
    refine lv_iconst (v := (-1)) X.hx X.hb dX2_row_13 (by decide) ?_
    exact r_ri X h hr hlk (Nat.le_of_ble_eq_true rfl) (Nat.le_of_ble_eq_true rfl) dX2_row_14 hf
  · replace hf := gif_f hf hc
    clear hc
    refine lv_iload_n X.hx X.hb dX2_row_7 rfl (lv_at hl 2 rfl) ?_
    refine lv_bipush (v := 40) X.hx X.hb dX2_row_8 (by decide) ?_
    refine lv_icmp_le (tgt := 15) X.hx X.hb dX2_row_10 (by decide) (fun hc => ?_) (fun hc => ?_)
    · replace hf := gif_t hf hc
      clear hc
      refine lv_iload_n X.hx X.hb dX2_row_15 rfl (lv_at hl 2 rfl) ?_
      refine lv_if_ge (tgt := 25) X.hx X.hb dX2_row_16 (by decide) (fun hc => ?_) (fun hc => ?_)
      · replace hf := gif_t hf hc
        clear hc
        refine lv_aload_n X.hx X.hb dX2_row_25 rfl (lv_at hl 0 rfl) ?_
        refine r_getP X h (ci := 2) (k := 5) (C := RX2) (T := TX2) (N := 36) rfl in_X2 (by decide) q1064 rfl dX2_row_26 hf (fun i3 hf => ?_)
        refine lv_iload_n X.hx X.hb dX2_row_29 rfl (lv_at hl 1 rfl) ?_
        refine lv_iload_n X.hx X.hb dX2_row_30 rfl (lv_at hl 2 rfl) ?_
        refine r_iast X h dX2_row_31 hf (fun μ4 H locs hf h => ?_)
        refine lv_iconst (v := 0) X.hx X.hb dX2_row_32 (by decide) ?_
        refine lv_istore_n (lv' := [(3, .int 0), (0, .ref (ad b0)), (1, .int a1), (2, .int a2)]) X.hx X.hb dX2_row_33 rfl hl (by decide) rfl (fun ls hl => ?_)
        refine wX2_row_L34 l b0 a1 a2 X hr hlk 10000 _ _ _ _ _ hf h (lv_sub hl [1, 2, 3, 0] rfl)
      · replace hf := gif_f hf hc
        clear hc
        refine lv_aload_n X.hx X.hb dX2_row_19 rfl (lv_at hl 0 rfl) ?_
        refine lv_iconst (v := 5) X.hx X.hb dX2_row_20 (by decide) ?_
        refine r_cVI (As := [.int 5]) (rest := []) (C := RX2) (T := TX2) (N := 36) X h hf (fun res hres => wX2_meets l Γ ad _ b0 5 res hres) rfl (cwV 1 X.hts (lw_V q1199 q1201 qs38 q84 q1202) rfl rfl rfl (by decide +kernel) ⟨Nat.le_of_ble_eq_true rfl, Nat.le_of_ble_eq_true rfl⟩) rfl ⟨hl.1, Nat.le_of_ble_eq_true rfl, Nat.le_of_ble_eq_true rfl, Nat.le_of_ble_eq_true rfl⟩ rfl dX2_row_21 (fun x11 μ12 H locs hf h => ?_)
        exact r_ri X h hr hlk (Nat.le_of_ble_eq_true rfl) (Nat.le_of_ble_eq_true rfl) dX2_row_24 hf
    · replace hf := gif_f hf hc
      clear hc
      refine lv_iconst (v := (-1)) X.hx X.hb dX2_row_13 (by decide) ?_
      exact r_ri X h hr hlk (Nat.le_of_ble_eq_true rfl) (Nat.le_of_ble_eq_true rfl) dX2_row_14 hf
/-! X2_rows -/
def fX2_rows (μ0 : gM) (b0 : Nat) (a1 : Int32) : gR := cI (fX2_in μ0 a1 0 4) fun x1 μ2 => if x1 = 0 then (some (some (.int (-1)), μ2)) else (gI (gfld μ2 b0 2 11) fun x3 => if x3 = 0 then (some (some (.int (-4)), μ2)) else (gpf μ2 b0 2 32 (.int 0) fun μ4 => gpf μ4 b0 2 33 (.int 0) fun μ5 => gis μ5 b0 2 <| cV (fX2_layRows 8 μ5 b0 0 a1) fun μ6 => gI (gfld μ6 b0 2 33) fun x7 => gI (gfld μ6 b0 2 32) fun x8 => gis μ6 b0 2 <| cI (fX2_tells μ6 b0 x7 x8) fun x9 μ10 => some (some (.int x9), μ10)))
set_option maxHeartbeats 4000000 in
theorem wX2_rows (l : Launch) (Γ : gG) (ad : Nat → Nat) (μ0 : gM) (b0 : Nat) (a1 : Int32) (r : Option Value × gM) (hf : fX2_rows μ0 b0 a1 = some r) : gMt0 l Γ yX2_rows (ws_ yX2_rows cX2_rows 2 (some .int)) ({ frames := 12, cells := 0, slots := 0, locals := 277 } : Room) 0 0 ad μ0 [.ref (ad b0), .int a1] r := by
  intro sz
  refine g_start (maxL := 2) (ret := (some .int)) (by decide) rfl g_all (Nat.le_of_ble_eq_true rfl) ?_
  intro p e s m below meth c ls hr hlk hnm X h hl
  generalize gA ad μ0 sz = A at X h ⊢
  generalize ([.ref (ad b0), .int a1] : List Value).toArray = args at X ⊢
  have X : gX p m c cX2_rows 2 s args "SandPianoModel" Γ A := X
  have hl : lv_has ls 2 [(0, .ref (ad b0)), (1, .int a1)] := hl
  show W p l e ({ frames := 12, cells := 0, slots := 0, locals := 277 } : Room) s m args below meth c s.heap [] 0 0 (MQ below (gQ0 Γ ad μ0.1 r A) args s 0 0 A) (F0 m 0 ls [])
  unfold fX2_rows at hf
  refine lv_iload_n X.hx X.hb dX2_rows_0 rfl (lv_at hl 1 rfl) ?_
  refine lv_iconst (v := 0) X.hx X.hb dX2_rows_1 (by decide) ?_
  refine lv_iconst (v := 4) X.hx X.hb dX2_rows_2 (by decide) ?_
  refine r_cSI (As := [.int a1, .int 0, .int 4]) (rest := []) X h hf (fun res hres => wX2_in l Γ ad _ a1 0 4 res hres) (va_cwS 3 X.hts (lw_S q1177 q1178 q84 q1179) rfl rfl rfl (by decide +kernel) ⟨Nat.le_of_ble_eq_true rfl, Nat.le_of_ble_eq_true rfl⟩) rfl ⟨hl.1, Nat.le_of_ble_eq_true rfl, Nat.le_of_ble_eq_true rfl, Nat.le_of_ble_eq_true rfl⟩ rfl dX2_rows_3 (fun x1 μ2 H locs hf h => ?_)
  refine lv_if_ne (tgt := 11) X.hx X.hb dX2_rows_6 (by decide) (fun hc => ?_) (fun hc => ?_)
  · replace hf := gif_f hf hc
    clear hc
    refine lv_aload_n X.hx X.hb dX2_rows_11 rfl (lv_at hl 0 rfl) ?_
    refine r_getI X h (ci := 2) (k := 11) (C := RX2) (T := TX2) (N := 36) rfl in_X2 (by decide) q1070 rfl dX2_rows_12 hf (fun x3 hf => ?_)
    refine lv_if_ne (tgt := 21) X.hx X.hb dX2_rows_15 (by decide) (fun hc => ?_) (fun hc => ?_)
    · replace hf := gif_f hf hc
      clear hc
      refine lv_aload_n X.hx X.hb dX2_rows_21 rfl (lv_at hl 0 rfl) ?_
      refine lv_iconst (v := 0) X.hx X.hb dX2_rows_22 (by decide) ?_
      refine r_put X h (ci := 2) (k := 32) (C := RX2) (T := TX2) (N := 36) (ty0 := tyX2) (ty := .int) (v := .int 0) rfl in_X2 tyX2_ok nmX2 (by decide) q1091 rfl rfl (by decide +kernel) rfl rfl (fun j hj => by cases hj) dX2_rows_23 hf (fun μ4 H locs hf h => ?_)
      refine lv_aload_n X.hx X.hb dX2_rows_26 rfl (lv_at hl 0 rfl) ?_
      refine lv_iconst (v := 0) X.hx X.hb dX2_rows_27 (by decide) ?_
      refine r_put X h (ci := 2) (k := 33) (C := RX2) (T := TX2) (N := 36) (ty0 := tyX2) (ty := .int) (v := .int 0) rfl in_X2 tyX2_ok nmX2 (by decide) q1092 rfl rfl (by decide +kernel) rfl rfl (fun j hj => by cases hj) dX2_rows_28 hf (fun μ5 H locs hf h => ?_)
      refine lv_aload_n X.hx X.hb dX2_rows_31 rfl (lv_at hl 0 rfl) ?_
      refine lv_iconst (v := 0) X.hx X.hb dX2_rows_32 (by decide) ?_
      refine lv_iload_n X.hx X.hb dX2_rows_33 rfl (lv_at hl 1 rfl) ?_
      refine r_cVV (As := [.int 0, .int a1]) (rest := []) (C := RX2) (T := TX2) (N := 36) X h hf (fun res hres => wX2_layRows l Γ 8 ad _ b0 0 a1 res hres) rfl (cwV 2 X.hts (lw_V q1457 q1459 qs70 q84 q1460) rfl rfl rfl (by decide +kernel) ⟨Nat.le_of_ble_eq_true rfl, Nat.le_of_ble_eq_true rfl⟩) rfl ⟨hl.1, Nat.le_of_ble_eq_true rfl, Nat.le_of_ble_eq_true rfl, Nat.le_of_ble_eq_true rfl⟩ rfl dX2_rows_34 (fun μ6 H locs hf h => ?_)
      refine lv_aload_n X.hx X.hb dX2_rows_37 rfl (lv_at hl 0 rfl) ?_
      refine lv_aload_n X.hx X.hb dX2_rows_38 rfl (lv_at hl 0 rfl) ?_
      refine r_getI X h (ci := 2) (k := 33) (C := RX2) (T := TX2) (N := 36) rfl in_X2 (by decide) q1092 rfl dX2_rows_39 hf (fun x7 hf => ?_)
      refine lv_aload_n X.hx X.hb dX2_rows_42 rfl (lv_at hl 0 rfl) ?_
      refine r_getI X h (ci := 2) (k := 32) (C := RX2) (T := TX2) (N := 36) rfl in_X2 (by decide) q1091 rfl dX2_rows_43 hf (fun x8 hf => ?_)
      refine r_cVI (As := [.int x7, .int x8]) (rest := []) (C := RX2) (T := TX2) (N := 36) X h hf (fun res hres => wX2_tells l Γ ad _ b0 x7 x8 res hres) rfl (cwV 2 X.hts (lw_V q1211 q1213 qs40 q84 q1214) rfl rfl rfl (by decide +kernel) ⟨Nat.le_of_ble_eq_true rfl, Nat.le_of_ble_eq_true rfl⟩) rfl ⟨hl.1, Nat.le_of_ble_eq_true rfl, Nat.le_of_ble_eq_true rfl, Nat.le_of_ble_eq_true rfl⟩ rfl dX2_rows_46 (fun x9 μ10 H locs hf h => ?_)
      exact r_ri X h hr hlk (Nat.le_of_ble_eq_true rfl) (Nat.le_of_ble_eq_true rfl) dX2_rows_49 hf
    · replace hf := gif_t hf hc
      clear hc
      refine lv_bipush (v := (-4)) X.hx X.hb dX2_rows_18 (by decide) ?_
      exact r_ri X h hr hlk (Nat.le_of_ble_eq_true rfl) (Nat.le_of_ble_eq_true rfl) dX2_rows_20 hf
  · replace hf := gif_t hf hc
    clear hc
    refine lv_iconst (v := (-1)) X.hx X.hb dX2_rows_9 (by decide) ?_
    exact r_ri X h hr hlk (Nat.le_of_ble_eq_true rfl) (Nat.le_of_ble_eq_true rfl) dX2_rows_10 hf
/-! X2_spade -/
def fX2_spade (μ0 : gM) (b0 : Nat) (a1 : Int32) : gR := cI (fX2_in μ0 a1 1 9) fun x1 μ2 => if x1 = 0 then (some (some (.int (-1)), μ2)) else (gI (gfld μ2 b0 2 11) fun x3 => if x3 = 0 then (some (some (.int (-4)), μ2)) else (gI (gfld μ2 b0 2 10) fun x4 => gpf μ2 b0 2 10 (.int a1) fun μ5 => some (some (.int x4), μ5)))
set_option maxHeartbeats 4000000 in
theorem wX2_spade (l : Launch) (Γ : gG) (ad : Nat → Nat) (μ0 : gM) (b0 : Nat) (a1 : Int32) (r : Option Value × gM) (hf : fX2_spade μ0 b0 a1 = some r) : gMt0 l Γ yX2_spade (ws_ yX2_spade cX2_spade 3 (some .int)) ({ frames := 1, cells := 0, slots := 0, locals := 22 } : Room) 0 0 ad μ0 [.ref (ad b0), .int a1] r := by
  intro sz
  refine g_start (maxL := 3) (ret := (some .int)) (by decide) rfl g_all (Nat.le_of_ble_eq_true rfl) ?_
  intro p e s m below meth c ls hr hlk hnm X h hl
  generalize gA ad μ0 sz = A at X h ⊢
  generalize ([.ref (ad b0), .int a1] : List Value).toArray = args at X ⊢
  have X : gX p m c cX2_spade 3 s args "SandPianoModel" Γ A := X
  have hl : lv_has ls 3 [(0, .ref (ad b0)), (1, .int a1)] := hl
  show W p l e ({ frames := 1, cells := 0, slots := 0, locals := 22 } : Room) s m args below meth c s.heap [] 0 0 (MQ below (gQ0 Γ ad μ0.1 r A) args s 0 0 A) (F0 m 0 ls [])
  unfold fX2_spade at hf
  refine lv_iload_n X.hx X.hb dX2_spade_0 rfl (lv_at hl 1 rfl) ?_
  refine lv_iconst (v := 1) X.hx X.hb dX2_spade_1 (by decide) ?_
  refine lv_bipush (v := 9) X.hx X.hb dX2_spade_2 (by decide) ?_
  refine r_cSI (As := [.int a1, .int 1, .int 9]) (rest := []) X h hf (fun res hres => wX2_in l Γ ad _ a1 1 9 res hres) (va_cwS 3 X.hts (lw_S q1177 q1178 q84 q1179) rfl rfl rfl (by decide +kernel) ⟨Nat.le_of_ble_eq_true rfl, Nat.le_of_ble_eq_true rfl⟩) rfl ⟨hl.1, Nat.le_of_ble_eq_true rfl, Nat.le_of_ble_eq_true rfl, Nat.le_of_ble_eq_true rfl⟩ rfl dX2_spade_4 (fun x1 μ2 H locs hf h => ?_)
  refine lv_if_ne (tgt := 12) X.hx X.hb dX2_spade_7 (by decide) (fun hc => ?_) (fun hc => ?_)
  · replace hf := gif_f hf hc
    clear hc
    refine lv_aload_n X.hx X.hb dX2_spade_12 rfl (lv_at hl 0 rfl) ?_
    refine r_getI X h (ci := 2) (k := 11) (C := RX2) (T := TX2) (N := 36) rfl in_X2 (by decide) q1070 rfl dX2_spade_13 hf (fun x3 hf => ?_)
    refine lv_if_ne (tgt := 22) X.hx X.hb dX2_spade_16 (by decide) (fun hc => ?_) (fun hc => ?_)
    · replace hf := gif_f hf hc
      clear hc
      refine lv_aload_n X.hx X.hb dX2_spade_22 rfl (lv_at hl 0 rfl) ?_
      refine r_getI X h (ci := 2) (k := 10) (C := RX2) (T := TX2) (N := 36) rfl in_X2 (by decide) q1069 rfl dX2_spade_23 hf (fun x4 hf => ?_)
      refine lv_istore_n (lv' := [(2, .int x4), (0, .ref (ad b0)), (1, .int a1)]) X.hx X.hb dX2_spade_26 rfl hl (by decide) rfl (fun ls hl => ?_)
      refine lv_aload_n X.hx X.hb dX2_spade_27 rfl (lv_at hl 1 rfl) ?_
      refine lv_iload_n X.hx X.hb dX2_spade_28 rfl (lv_at hl 2 rfl) ?_
      refine r_put X h (ci := 2) (k := 10) (C := RX2) (T := TX2) (N := 36) (ty0 := tyX2) (ty := .int) (v := .int a1) rfl in_X2 tyX2_ok nmX2 (by decide) q1069 rfl rfl (by decide +kernel) rfl rfl (fun j hj => by cases hj) dX2_spade_29 hf (fun μ5 H locs hf h => ?_)
      refine lv_iload_n X.hx X.hb dX2_spade_32 rfl (lv_at hl 0 rfl) ?_
      exact r_ri X h hr hlk (Nat.le_of_ble_eq_true rfl) (Nat.le_of_ble_eq_true rfl) dX2_spade_33 hf
    · replace hf := gif_t hf hc
      clear hc
      refine lv_bipush (v := (-4)) X.hx X.hb dX2_spade_19 (by decide) ?_
      exact r_ri X h hr hlk (Nat.le_of_ble_eq_true rfl) (Nat.le_of_ble_eq_true rfl) dX2_spade_21 hf
  · replace hf := gif_t hf hc
    clear hc
    refine lv_iconst (v := (-1)) X.hx X.hb dX2_spade_10 (by decide) ?_
    exact r_ri X h hr hlk (Nat.le_of_ble_eq_true rfl) (Nat.le_of_ble_eq_true rfl) dX2_spade_11 hf
/-! X2_storms -/
def fX2_storms_L26 (b0 : Nat) (a1 : Int32) (a2 : Int32) (x4 : Int32) (kx105 : gM → gR) : Nat → Int32 → gM → gR
  | 0, _, _ => none
  | n8 + 1, x6, μ7 => gI (gfld μ7 b0 2 11) fun x9 => if x9 ≤ x6 then (kx105 μ7) else (gjn (fun (x10 : Int32) (μ11 : gM) => gjn (fun (x13 : Int32) (μ14 : gM) => gis μ14 b0 2 <| cI (fX2_isKey μ14 b0 x13) fun x16 μ17 => gjn (fun (x18 : Int32) (μ19 : gM) => gis μ19 b0 2 <| cV (fX2_place μ19 b0 a1 x10 x18) fun μ21 => gnm (x6 + 1) fun x22 => fX2_storms_L26 b0 a1 a2 x4 kx105 n8 x22 μ21) fun j20 => if x16 = 0 then (j20 0 μ17) else (gis μ17 b0 2 <| cI (fX2_v μ17 b0 a1 x13) fun x23 μ24 => j20 x23 μ24)) fun j15 => if a2 = 0 then (j15 (x10 + 1) μ11) else (j15 (x10 - 1) μ11)) fun j12 => if a2 = 0 then (j12 x6 μ7) else (gI (gfld μ7 b0 2 11) fun x25 => j12 ((x25 - 1) - x6) μ7))
set_option maxHeartbeats 4000000 in
theorem wX2_storms_L26 {p : Program} {e : Env} {s : State} {m : MethodId} {args : Array Value} {below : List Frame} {meth : Method} {c : Code} {Γ : gG} {A : Nat → Prop} {nz : Nat} {ad : Nat → Nat} {r : Option Value × gM} (l : Launch) (b0 : Nat) (a1 : Int32) (a2 : Int32) (x4 : Int32) (kx105 : gM → gR) (X : gX p m c cX2_storms 8 s args "SandPianoModel" Γ A) (hr : meth.sig.returnType = (some .int)) (hlk : meth.locks = false) (hk105 : ∀  (μ : gM) (H : Heap) (locs : List Loc) (ls : Array Slot), kx105  μ = some r → gWd Γ A nz ad μ s.heap H locs → lv_has ls 8 [(0, .ref (ad b0)), (1, .int a1), (4, .int x4)] → W p l e ({ frames := 2, cells := 0, slots := 0, locals := 43 } : Room) s m args below meth c H locs 0 0 (MQ below (gQ0 Γ ad nz r A) args s 0 0 A) (F0 m 105 ls [])) : ∀ (n8 : Nat) (x6 : Int32) (μ7 : gM) (H : Heap) (locs : List Loc) (ls : Array Slot), fX2_storms_L26 b0 a1 a2 x4 kx105 n8 x6 μ7 = some r → gWd Γ A nz ad μ7 s.heap H locs → lv_has ls 8 [(0, .ref (ad b0)), (1, .int a1), (2, .int a2), (4, .int x4), (5, .int x6)] → W p l e ({ frames := 2, cells := 0, slots := 0, locals := 43 } : Room) s m args below meth c H locs 0 0 (MQ below (gQ0 Γ ad nz r A) args s 0 0 A) (F0 m 26 ls []) := by
  intro n8
  induction n8 with
  | zero =>
    intro x6 μ7 H locs ls hf h hl
    have hf : (none : gR) = some r := hf
    cases hf
  | succ n8 ih =>
    intro x6 μ7 H locs ls hf h hl
    rw [fX2_storms_L26] at hf
    refine lv_iload X.hx X.hb dX2_storms_26 (lv_at hl 4 rfl) ?_
    refine lv_aload_n X.hx X.hb dX2_storms_28 rfl (lv_at hl 0 rfl) ?_
    refine r_getI X h (ci := 2) (k := 11) (C := RX2) (T := TX2) (N := 36) rfl in_X2 (by decide) q1070 rfl dX2_storms_29 hf (fun x9 hf => ?_)
    refine lv_icmp_ge (tgt := 105) X.hx X.hb dX2_storms_32 (by decide) (fun hc => ?_) (fun hc => ?_)
    · replace hf := gif_t hf hc
      clear hc
      exact hk105 _ _ _ _ hf h (lv_sub hl [0, 1, 3] rfl)
    · replace hf := gif_f hf hc
      clear hc
      refine lv_iload_n X.hx X.hb dX2_storms_35 rfl (lv_at hl 2 rfl) ?_
      refine r_jn hf (fun j12 ej12 hf => ?_)
      have hj12 : ∀ (x10 : Int32) (μ11 : gM) (H : Heap) (locs : List Loc) (ls : Array Slot), j12 x10 μ11 = some r → gWd Γ A nz ad μ11 s.heap H locs → lv_has ls 8 [(0, .ref (ad b0)), (1, .int a1), (2, .int a2), (4, .int x4), (5, .int x6)] → W p l e ({ frames := 2, cells := 0, slots := 0, locals := 43 } : Room) s m args below meth c H locs 0 0 (MQ below (gQ0 Γ ad nz r A) args s 0 0 A) (F0 m 53 ls [.int x10]) := by
        intro x10 μ11 H locs ls hf h hl
        rw [ej12] at hf
        refine lv_istore (lv' := [(6, .int x10), (0, .ref (ad b0)), (1, .int a1), (2, .int a2), (4, .int x4), (5, .int x6)]) X.hx X.hb dX2_storms_53 hl (by decide) rfl (fun ls hl => ?_)
        refine lv_iload_n X.hx X.hb dX2_storms_55 rfl (lv_at hl 3 rfl) ?_
        refine r_jn hf (fun j15 ej15 hf => ?_)
        have hj15 : ∀ (x13 : Int32) (μ14 : gM) (H : Heap) (locs : List Loc) (ls : Array Slot), j15 x13 μ14 = some r → gWd Γ A nz ad μ14 s.heap H locs → lv_has ls 8 [(0, .ref (ad b0)), (1, .int a1), (2, .int a2), (4, .int x4), (5, .int x6), (6, .int x10)] → W p l e ({ frames := 2, cells := 0, slots := 0, locals := 43 } : Room) s m args below meth c H locs 0 0 (MQ below (gQ0 Γ ad nz r A) args s 0 0 A) (F0 m 70 ls [.int x13]) := by
          intro x13 μ14 H locs ls hf h hl
          rw [ej15] at hf
          refine lv_istore (lv' := [(7, .int x13), (0, .ref (ad b0)), (1, .int a1), (2, .int a2), (4, .int x4), (5, .int x6), (6, .int x10)]) X.hx X.hb dX2_storms_70 hl (by decide) rfl (fun ls hl => ?_)
          refine lv_aload_n X.hx X.hb dX2_storms_72 rfl (lv_at hl 1 rfl) ?_
          refine lv_iload_n X.hx X.hb dX2_storms_73 rfl (lv_at hl 2 rfl) ?_
          refine lv_iload X.hx X.hb dX2_storms_74 (lv_at hl 6 rfl) ?_
          refine lv_aload_n X.hx X.hb dX2_storms_76 rfl (lv_at hl 1 rfl) ?_
          refine lv_iload X.hx X.hb dX2_storms_77 (lv_at hl 0 rfl) ?_
          refine r_cVI (As := [.int x13]) (rest := [.int x10, .int a1, .ref (ad b0)]) (C := RX2) (T := TX2) (N := 36) X h hf (fun res hres => wX2_isKey l Γ ad _ b0 x13 res hres) rfl (cwV 1 X.hts (lw_V q1281 q1283 qs47 q84 q1284) rfl rfl rfl (by decide +kernel) ⟨Nat.le_of_ble_eq_true rfl, Nat.le_of_ble_eq_true rfl⟩) rfl ⟨hl.1, Nat.le_of_ble_eq_true rfl, Nat.le_of_ble_eq_true rfl, Nat.le_of_ble_eq_true rfl⟩ rfl dX2_storms_79 (fun x16 μ17 H locs hf h => ?_)
          refine r_jn hf (fun j20 ej20 hf => ?_)
          have hj20 : ∀ (x18 : Int32) (μ19 : gM) (H : Heap) (locs : List Loc) (ls : Array Slot), j20 x18 μ19 = some r → gWd Γ A nz ad μ19 s.heap H locs → lv_has ls 8 [(0, .ref (ad b0)), (1, .int a1), (2, .int a2), (4, .int x4), (5, .int x6)] → W p l e ({ frames := 2, cells := 0, slots := 0, locals := 43 } : Room) s m args below meth c H locs 0 0 (MQ below (gQ0 Γ ad nz r A) args s 0 0 A) (F0 m 96 ls [.int x18, .int x10, .int a1, .ref (ad b0)]) := by
            intro x18 μ19 H locs ls hf h hl
            rw [ej20] at hf
            refine r_cVV (As := [.int a1, .int x10, .int x18]) (rest := []) (C := RX2) (T := TX2) (N := 36) X h hf (fun res hres => wX2_place l Γ ad _ b0 a1 x10 x18 res hres) rfl (cwV 3 X.hts (lw_V q1273 q1275 qs46 q84 q1276) rfl rfl rfl (by decide +kernel) ⟨Nat.le_of_ble_eq_true rfl, Nat.le_of_ble_eq_true rfl⟩) rfl ⟨hl.1, Nat.le_of_ble_eq_true rfl, Nat.le_of_ble_eq_true rfl, Nat.le_of_ble_eq_true rfl⟩ rfl dX2_storms_96 (fun μ21 H locs hf h => ?_)
            refine r_nmk hf (fun x22 ex hf => ?_)
            refine lv_iinc (v := x22) (lv' := [(5, .int x22), (0, .ref (ad b0)), (1, .int a1), (2, .int a2), (4, .int x4)]) X.hx X.hb dX2_storms_99 hl (k := 4) rfl (by rw [ex]; rfl) (by decide) rfl (fun ls hl => ?_)
            clear ex
            refine lv_goto (tgt := 26) X.hx X.hb dX2_storms_102 (by decide) ?_
            exact ih _ _ _ _ _ hf h (lv_sub hl [1, 2, 3, 4, 0] rfl)
          clear ej20
          refine lv_if_eq (tgt := 95) X.hx X.hb dX2_storms_82 (by decide) (fun hc => ?_) (fun hc => ?_)
          · replace hf := gif_t hf hc
            clear hc
            refine lv_iconst (v := 0) X.hx X.hb dX2_storms_95 (by decide) ?_
            exact hj20 _ _ _ _ _ hf h (lv_sub hl [1, 2, 3, 4, 5] rfl)
          · replace hf := gif_f hf hc
            clear hc
            refine lv_aload_n X.hx X.hb dX2_storms_85 rfl (lv_at hl 1 rfl) ?_
            refine lv_iload_n X.hx X.hb dX2_storms_86 rfl (lv_at hl 2 rfl) ?_
            refine lv_iload X.hx X.hb dX2_storms_87 (lv_at hl 0 rfl) ?_
            refine r_cVI (As := [.int a1, .int x13]) (rest := [.int x10, .int a1, .ref (ad b0)]) (C := RX2) (T := TX2) (N := 36) X h hf (fun res hres => wX2_v l Γ ad _ b0 a1 x13 res hres) rfl (cwV 2 X.hts (lw_V q1289 q1291 qs49 q84 q1292) rfl rfl rfl (by decide +kernel) ⟨Nat.le_of_ble_eq_true rfl, Nat.le_of_ble_eq_true rfl⟩) rfl ⟨hl.1, Nat.le_of_ble_eq_true rfl, Nat.le_of_ble_eq_true rfl, Nat.le_of_ble_eq_true rfl⟩ rfl dX2_storms_89 (fun x23 μ24 H locs hf h => ?_)
            refine lv_goto (tgt := 96) X.hx X.hb dX2_storms_92 (by decide) ?_
            exact hj20 _ _ _ _ _ hf h (lv_sub hl [1, 2, 3, 4, 5] rfl)
        clear ej15
        refine lv_if_ne (tgt := 66) X.hx X.hb dX2_storms_56 (by decide) (fun hc => ?_) (fun hc => ?_)
        · replace hf := gif_f hf hc
          clear hc
          refine lv_iload X.hx X.hb dX2_storms_66 (lv_at hl 0 rfl) ?_
          refine lv_iconst (v := 1) X.hx X.hb dX2_storms_68 (by decide) ?_
          refine lv_isub X.hx X.hb dX2_storms_69 ?_
          exact hj15 _ _ _ _ _ hf h (lv_sub hl [1, 2, 3, 4, 5, 0] rfl)
        · replace hf := gif_t hf hc
          clear hc
          refine lv_iload X.hx X.hb dX2_storms_59 (lv_at hl 0 rfl) ?_
          refine lv_iconst (v := 1) X.hx X.hb dX2_storms_61 (by decide) ?_
          refine lv_iadd X.hx X.hb dX2_storms_62 ?_
          refine lv_goto (tgt := 70) X.hx X.hb dX2_storms_63 (by decide) ?_
          exact hj15 _ _ _ _ _ hf h (lv_sub hl [1, 2, 3, 4, 5, 0] rfl)
      clear ej12
      refine lv_if_ne (tgt := 44) X.hx X.hb dX2_storms_36 (by decide) (fun hc => ?_) (fun hc => ?_)
      · replace hf := gif_f hf hc
        clear hc
        refine lv_aload_n X.hx X.hb dX2_storms_44 rfl (lv_at hl 0 rfl) ?_
        refine r_getI X h (ci := 2) (k := 11) (C := RX2) (T := TX2) (N := 36) rfl in_X2 (by decide) q1070 rfl dX2_storms_45 hf (fun x25 hf => ?_)
        refine lv_iconst (v := 1) X.hx X.hb dX2_storms_48 (by decide) ?_
        refine lv_isub X.hx X.hb dX2_storms_49 ?_
        refine lv_iload X.hx X.hb dX2_storms_50 (lv_at hl 4 rfl) ?_
        refine lv_isub X.hx X.hb dX2_storms_52 ?_
        exact hj12 _ _ _ _ _ hf h (lv_sub hl [0, 1, 2, 3, 4] rfl)
      · replace hf := gif_t hf hc
        clear hc
        refine lv_iload X.hx X.hb dX2_storms_39 (lv_at hl 4 rfl) ?_
        refine lv_goto (tgt := 53) X.hx X.hb dX2_storms_41 (by decide) ?_
        exact hj12 _ _ _ _ _ hf h (lv_sub hl [0, 1, 2, 3, 4] rfl)
def fX2_storms (μ0 : gM) (b0 : Nat) (a1 : Int32) (a2 : Int32) : gR := gjn (fun (x1 : Int32) (μ2 : gM) => gis μ2 b0 2 <| cI (fX2_v μ2 b0 a1 x1) fun x4 μ5 => fX2_storms_L26 b0 a1 a2 x4 (fun (μ26 : gM) => gis μ26 b0 2 <| cV (fX2_add μ26 b0 a1 6 x4) fun μ27 => some (some (.int x4), μ27)) 10000 0 μ5) fun j3 => if a2 = 0 then (j3 0 μ0) else (gI (gfld μ0 b0 2 11) fun x28 => j3 (x28 - 1) μ0)
set_option maxHeartbeats 4000000 in
theorem wX2_storms (l : Launch) (Γ : gG) (ad : Nat → Nat) (μ0 : gM) (b0 : Nat) (a1 : Int32) (a2 : Int32) (r : Option Value × gM) (hf : fX2_storms μ0 b0 a1 a2 = some r) : gMt0 l Γ yX2_storms (ws_ yX2_storms cX2_storms 8 (some .int)) ({ frames := 2, cells := 0, slots := 0, locals := 43 } : Room) 0 0 ad μ0 [.ref (ad b0), .int a1, .int a2] r := by
  intro sz
  refine g_start (maxL := 8) (ret := (some .int)) (by decide) rfl g_all (Nat.le_of_ble_eq_true rfl) ?_
  intro p e s m below meth c ls hr hlk hnm X h hl
  generalize gA ad μ0 sz = A at X h ⊢
  generalize ([.ref (ad b0), .int a1, .int a2] : List Value).toArray = args at X ⊢
  have X : gX p m c cX2_storms 8 s args "SandPianoModel" Γ A := X
  have hl : lv_has ls 8 [(0, .ref (ad b0)), (1, .int a1), (2, .int a2)] := hl
  show W p l e ({ frames := 2, cells := 0, slots := 0, locals := 43 } : Room) s m args below meth c s.heap [] 0 0 (MQ below (gQ0 Γ ad μ0.1 r A) args s 0 0 A) (F0 m 0 ls [])
  unfold fX2_storms at hf
  refine lv_iload_n X.hx X.hb dX2_storms_0 rfl (lv_at hl 2 rfl) ?_
  refine r_jn hf (fun j3 ej3 hf => ?_)
  have hj3 : ∀ (x1 : Int32) (μ2 : gM) (H : Heap) (locs : List Loc) (ls : Array Slot), j3 x1 μ2 = some r → gWd Γ A μ0.1 ad μ2 s.heap H locs → lv_has ls 8 [(0, .ref (ad b0)), (1, .int a1), (2, .int a2)] → W p l e ({ frames := 2, cells := 0, slots := 0, locals := 43 } : Room) s m args below meth c H locs 0 0 (MQ below (gQ0 Γ ad μ0.1 r A) args s 0 0 A) (F0 m 14 ls [.int x1]) := by
    intro x1 μ2 H locs ls hf h hl
    rw [ej3] at hf
    refine lv_istore_n (lv' := [(3, .int x1), (0, .ref (ad b0)), (1, .int a1), (2, .int a2)]) X.hx X.hb dX2_storms_14 rfl hl (by decide) rfl (fun ls hl => ?_)
    refine lv_aload_n X.hx X.hb dX2_storms_15 rfl (lv_at hl 1 rfl) ?_
    refine lv_iload_n X.hx X.hb dX2_storms_16 rfl (lv_at hl 2 rfl) ?_
    refine lv_iload_n X.hx X.hb dX2_storms_17 rfl (lv_at hl 0 rfl) ?_
    refine r_cVI (As := [.int a1, .int x1]) (rest := []) (C := RX2) (T := TX2) (N := 36) X h hf (fun res hres => wX2_v l Γ ad _ b0 a1 x1 res hres) rfl (cwV 2 X.hts (lw_V q1289 q1291 qs49 q84 q1292) rfl rfl rfl (by decide +kernel) ⟨Nat.le_of_ble_eq_true rfl, Nat.le_of_ble_eq_true rfl⟩) rfl ⟨hl.1, Nat.le_of_ble_eq_true rfl, Nat.le_of_ble_eq_true rfl, Nat.le_of_ble_eq_true rfl⟩ rfl dX2_storms_18 (fun x4 μ5 H locs hf h => ?_)
    refine lv_istore (lv' := [(4, .int x4), (3, .int x1), (0, .ref (ad b0)), (1, .int a1), (2, .int a2)]) X.hx X.hb dX2_storms_21 hl (by decide) rfl (fun ls hl => ?_)
    refine lv_iconst (v := 0) X.hx X.hb dX2_storms_23 (by decide) ?_
    refine lv_istore (lv' := [(5, .int 0), (4, .int x4), (3, .int x1), (0, .ref (ad b0)), (1, .int a1), (2, .int a2)]) X.hx X.hb dX2_storms_24 hl (by decide) rfl (fun ls hl => ?_)
    refine wX2_storms_L26 l b0 a1 a2 x4 _ X hr hlk (fun μ26 H locs ls hf h hl => ?_) 10000 _ _ _ _ _ hf h (lv_sub hl [3, 4, 5, 1, 0] rfl)
    refine lv_aload_n X.hx X.hb dX2_storms_105 rfl (lv_at hl 0 rfl) ?_
    refine lv_iload_n X.hx X.hb dX2_storms_106 rfl (lv_at hl 1 rfl) ?_
    refine lv_bipush (v := 6) X.hx X.hb dX2_storms_107 (by decide) ?_
    refine lv_iload X.hx X.hb dX2_storms_109 (lv_at hl 2 rfl) ?_
    refine r_cVV (As := [.int a1, .int 6, .int x4]) (rest := []) (C := RX2) (T := TX2) (N := 36) X h hf (fun res hres => wX2_add l Γ ad _ b0 a1 6 x4 res hres) rfl (cwV 3 X.hts (lw_V q1342 q1344 qs57 q84 q1345) rfl rfl rfl (by decide +kernel) ⟨Nat.le_of_ble_eq_true rfl, Nat.le_of_ble_eq_true rfl⟩) rfl ⟨hl.1, Nat.le_of_ble_eq_true rfl, Nat.le_of_ble_eq_true rfl, Nat.le_of_ble_eq_true rfl⟩ rfl dX2_storms_111 (fun μ27 H locs hf h => ?_)
    refine lv_iload X.hx X.hb dX2_storms_114 (lv_at hl 2 rfl) ?_
    exact r_ri X h hr hlk (Nat.le_of_ble_eq_true rfl) (Nat.le_of_ble_eq_true rfl) dX2_storms_116 hf
  clear ej3
  refine lv_if_ne (tgt := 8) X.hx X.hb dX2_storms_1 (by decide) (fun hc => ?_) (fun hc => ?_)
  · replace hf := gif_f hf hc
    clear hc
    refine lv_aload_n X.hx X.hb dX2_storms_8 rfl (lv_at hl 0 rfl) ?_
    refine r_getI X h (ci := 2) (k := 11) (C := RX2) (T := TX2) (N := 36) rfl in_X2 (by decide) q1070 rfl dX2_storms_9 hf (fun x28 hf => ?_)
    refine lv_iconst (v := 1) X.hx X.hb dX2_storms_12 (by decide) ?_
    refine lv_isub X.hx X.hb dX2_storms_13 ?_
    exact hj3 _ _ _ _ _ hf h (lv_sub hl [0, 1, 2] rfl)
  · replace hf := gif_t hf hc
    clear hc
    refine lv_iconst (v := 0) X.hx X.hb dX2_storms_4 (by decide) ?_
    refine lv_goto (tgt := 14) X.hx X.hb dX2_storms_5 (by decide) ?_
    exact hj3 _ _ _ _ _ hf h (lv_sub hl [0, 1, 2] rfl)
/-! X2_storm -/
def fX2_storm (μ0 : gM) (b0 : Nat) (a1 : Int32) : gR := cI (fX2_in μ0 a1 0 1) fun x1 μ2 => if x1 = 0 then (some (some (.int (-1)), μ2)) else (gis μ2 b0 2 <| cI (fX2_needDeed μ2 b0) fun x3 μ4 => if 0 ≤ x3 then (gis μ4 b0 2 <| cV (fX2_remember μ4 b0) fun μ5 => gis μ5 b0 2 <| cI (fX2_storms μ5 b0 0 a1) fun x6 μ7 => some (some (.int x6), μ7)) else (some (some (.int x3), μ4)))
set_option maxHeartbeats 4000000 in
theorem wX2_storm (l : Launch) (Γ : gG) (ad : Nat → Nat) (μ0 : gM) (b0 : Nat) (a1 : Int32) (r : Option Value × gM) (hf : fX2_storm μ0 b0 a1 = some r) : gMt0 l Γ yX2_storm (ws_ yX2_storm cX2_storm 3 (some .int)) ({ frames := 3, cells := 0, slots := 0, locals := 70 } : Room) 0 0 ad μ0 [.ref (ad b0), .int a1] r := by
  intro sz
  refine g_start (maxL := 3) (ret := (some .int)) (by decide) rfl g_all (Nat.le_of_ble_eq_true rfl) ?_
  intro p e s m below meth c ls hr hlk hnm X h hl
  generalize gA ad μ0 sz = A at X h ⊢
  generalize ([.ref (ad b0), .int a1] : List Value).toArray = args at X ⊢
  have X : gX p m c cX2_storm 3 s args "SandPianoModel" Γ A := X
  have hl : lv_has ls 3 [(0, .ref (ad b0)), (1, .int a1)] := hl
  show W p l e ({ frames := 3, cells := 0, slots := 0, locals := 70 } : Room) s m args below meth c s.heap [] 0 0 (MQ below (gQ0 Γ ad μ0.1 r A) args s 0 0 A) (F0 m 0 ls [])
  unfold fX2_storm at hf
  refine lv_iload_n X.hx X.hb dX2_storm_0 rfl (lv_at hl 1 rfl) ?_
  refine lv_iconst (v := 0) X.hx X.hb dX2_storm_1 (by decide) ?_
  refine lv_iconst (v := 1) X.hx X.hb dX2_storm_2 (by decide) ?_
  refine r_cSI (As := [.int a1, .int 0, .int 1]) (rest := []) X h hf (fun res hres => wX2_in l Γ ad _ a1 0 1 res hres) (va_cwS 3 X.hts (lw_S q1177 q1178 q84 q1179) rfl rfl rfl (by decide +kernel) ⟨Nat.le_of_ble_eq_true rfl, Nat.le_of_ble_eq_true rfl⟩) rfl ⟨hl.1, Nat.le_of_ble_eq_true rfl, Nat.le_of_ble_eq_true rfl, Nat.le_of_ble_eq_true rfl⟩ rfl dX2_storm_3 (fun x1 μ2 H locs hf h => ?_)
  refine lv_if_ne (tgt := 11) X.hx X.hb dX2_storm_6 (by decide) (fun hc => ?_) (fun hc => ?_)
  · replace hf := gif_f hf hc
    clear hc
    refine lv_aload_n X.hx X.hb dX2_storm_11 rfl (lv_at hl 0 rfl) ?_
    refine r_cVI (As := []) (rest := []) (C := RX2) (T := TX2) (N := 36) X h hf (fun res hres => wX2_needDeed l Γ ad _ b0 res hres) rfl (cwV 0 X.hts (lw_V q1350 q1352 qs58 q84 q1353) rfl rfl rfl (by decide +kernel) ⟨Nat.le_of_ble_eq_true rfl, Nat.le_of_ble_eq_true rfl⟩) rfl ⟨hl.1, Nat.le_of_ble_eq_true rfl, Nat.le_of_ble_eq_true rfl, Nat.le_of_ble_eq_true rfl⟩ rfl dX2_storm_12 (fun x3 μ4 H locs hf h => ?_)
    refine lv_istore_n (lv' := [(2, .int x3), (0, .ref (ad b0)), (1, .int a1)]) X.hx X.hb dX2_storm_15 rfl hl (by decide) rfl (fun ls hl => ?_)
    refine lv_iload_n X.hx X.hb dX2_storm_16 rfl (lv_at hl 0 rfl) ?_
    refine lv_if_ge (tgt := 22) X.hx X.hb dX2_storm_17 (by decide) (fun hc => ?_) (fun hc => ?_)
    · replace hf := gif_t hf hc
      clear hc
      refine lv_aload_n X.hx X.hb dX2_storm_22 rfl (lv_at hl 1 rfl) ?_
      refine r_cVV (As := []) (rest := []) (C := RX2) (T := TX2) (N := 36) X h hf (fun res hres => wX2_remember l Γ ad _ b0 res hres) rfl (cwV 0 X.hts (lw_V q1326 q1328 qs53 q84 q1329) rfl rfl rfl (by decide +kernel) ⟨Nat.le_of_ble_eq_true rfl, Nat.le_of_ble_eq_true rfl⟩) rfl ⟨hl.1, Nat.le_of_ble_eq_true rfl, Nat.le_of_ble_eq_true rfl, Nat.le_of_ble_eq_true rfl⟩ rfl dX2_storm_23 (fun μ5 H locs hf h => ?_)
      refine lv_aload_n X.hx X.hb dX2_storm_26 rfl (lv_at hl 1 rfl) ?_
      refine lv_iconst (v := 0) X.hx X.hb dX2_storm_27 (by decide) ?_
      refine lv_iload_n X.hx X.hb dX2_storm_28 rfl (lv_at hl 2 rfl) ?_
      refine r_cVI (As := [.int 0, .int a1]) (rest := []) (C := RX2) (T := TX2) (N := 36) X h hf (fun res hres => wX2_storms l Γ ad _ b0 0 a1 res hres) rfl (cwV 2 X.hts (lw_V q1362 q1364 qs60 q84 q1365) rfl rfl rfl (by decide +kernel) ⟨Nat.le_of_ble_eq_true rfl, Nat.le_of_ble_eq_true rfl⟩) rfl ⟨hl.1, Nat.le_of_ble_eq_true rfl, Nat.le_of_ble_eq_true rfl, Nat.le_of_ble_eq_true rfl⟩ rfl dX2_storm_29 (fun x6 μ7 H locs hf h => ?_)
      exact r_ri X h hr hlk (Nat.le_of_ble_eq_true rfl) (Nat.le_of_ble_eq_true rfl) dX2_storm_32 hf
    · replace hf := gif_f hf hc
      clear hc
      refine lv_iload_n X.hx X.hb dX2_storm_20 rfl (lv_at hl 0 rfl) ?_
      exact r_ri X h hr hlk (Nat.le_of_ble_eq_true rfl) (Nat.le_of_ble_eq_true rfl) dX2_storm_21 hf
  · replace hf := gif_t hf hc
    clear hc
    refine lv_iconst (v := (-1)) X.hx X.hb dX2_storm_9 (by decide) ?_
    exact r_ri X h hr hlk (Nat.le_of_ble_eq_true rfl) (Nat.le_of_ble_eq_true rfl) dX2_storm_10 hf
