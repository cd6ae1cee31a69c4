set_option maxRecDepth 100000
/-! X2_most -/
def fX2_most (μ0 : gM) (b0 : Nat) (a1 : Int32) : gR := cI (fX2_isRow μ0 a1) fun x1 μ2 => if x1 = 0 then (some (some (.int (-1)), μ2)) else (gI (gfld μ2 b0 2 11) fun x3 => if x3 = 0 then (some (some (.int (-4)), μ2)) else (gpf μ2 b0 2 30 (.int 0) fun μ4 => gis μ4 b0 2 <| cV (fX2_layMost 8 μ4 b0 0 0) fun μ5 => gP (gfld μ5 b0 2 29) fun i6 => gI (gfld μ5 b0 2 30) fun x7 => gis μ5 b0 2 <| cV (fX2_layRow μ5 b0 a1 i6 x7) fun μ8 => gI (gfld μ8 b0 2 30) fun x9 => some (some (.int x9), μ8)))
set_option maxHeartbeats 4000000 in
theorem wX2_most (l : Launch) (Γ : gG) (ad : Nat → Nat) (μ0 : gM) (b0 : Nat) (a1 : Int32) (r : Option Value × gM) (hf : fX2_most μ0 b0 a1 = some r) : gMt0 l Γ yX2_most (ws_ yX2_most cX2_most 2 (some .int)) ({ frames := 12, cells := 0, slots := 0, locals := 277 } : Room) 0 0 ad μ0 [.ref (ad b0), .int a1] r := by
  intro sz
  refine g_start (maxL := 2) (ret := (some .int)) (by decide) rfl g_all (Nat.le_of_ble_eq_true rfl) ?_
  intro p e s m below meth c ls hr hlk hnm X h hl
  generalize gA ad μ0 sz = A at X h ⊢
  generalize ([.ref (ad b0), .int a1] : List Value).toArray = args at X ⊢
  have X : gX p m c cX2_most 2 s args "SandPianoModel" Γ A := X
  have hl : lv_has ls 2 [(0, .ref (ad b0)), (1, .int a1)] := hl
  show W p l e ({ frames := 12, cells := 0, slots := 0, locals := 277 } : Room) s m args below meth c s.heap [] 0 0 (MQ below (gQ0 Γ ad μ0.1 r A) args s 0 0 A) (F0 m 0 ls [])
  unfold fX2_most at hf
  refine lv_iload_n X.hx X.hb dX2_most_0 rfl (lv_at hl 1 rfl) ?_
  refine r_cSI (As := [.int a1]) (rest := []) X h hf (fun res hres => wX2_isRow l Γ ad _ a1 res hres) (va_cwS 1 X.hts (lw_S q1196 q1197 q84 q1198) rfl rfl rfl (by decide +kernel) ⟨Nat.le_of_ble_eq_true rfl, Nat.le_of_ble_eq_true rfl⟩) rfl ⟨hl.1, Nat.le_of_ble_eq_true rfl, Nat.le_of_ble_eq_true rfl, Nat.le_of_ble_eq_true rfl⟩ rfl dX2_most_1 (fun x1 μ2 H locs hf h => ?_)
  refine lv_if_ne (tgt := 9) X.hx X.hb dX2_most_4 (by decide) (fun hc => ?_) (fun hc => ?_)
  · replace hf := gif_f hf hc
    clear hc
    refine lv_aload_n X.hx X.hb dX2_most_9 rfl (lv_at hl 0 rfl) ?_
    refine r_getI X h (ci := 2) (k := 11) (C := RX2) (T := TX2) (N := 36) rfl in_X2 (by decide) q1070 rfl dX2_most_10 hf (fun x3 hf => ?_)
    refine lv_if_ne (tgt := 19) X.hx X.hb dX2_most_13 (by decide) (fun hc => ?_) (fun hc => ?_)
    · replace hf := gif_f hf hc
      clear hc
      refine lv_aload_n X.hx X.hb dX2_most_19 rfl (lv_at hl 0 rfl) ?_
      refine lv_iconst (v := 0) X.hx X.hb dX2_most_20 (by decide) ?_
      refine r_put X h (ci := 2) (k := 30) (C := RX2) (T := TX2) (N := 36) (ty0 := tyX2) (ty := .int) (v := .int 0) rfl in_X2 tyX2_ok nmX2 (by decide) q1089 rfl rfl (by decide +kernel) rfl rfl (fun j hj => by cases hj) dX2_most_21 hf (fun μ4 H locs hf h => ?_)
      refine lv_aload_n X.hx X.hb dX2_most_24 rfl (lv_at hl 0 rfl) ?_
      refine lv_iconst (v := 0) X.hx X.hb dX2_most_25 (by decide) ?_
      refine lv_iconst (v := 0) X.hx X.hb dX2_most_26 (by decide) ?_
      refine r_cVV (As := [.int 0, .int 0]) (rest := []) (C := RX2) (T := TX2) (N := 36) X h hf (fun res hres => wX2_layMost l Γ 8 ad _ b0 0 0 res hres) rfl (cwV 2 X.hts (lw_V q1434 q1436 qs67 q84 q1437) rfl rfl rfl (by decide +kernel) ⟨Nat.le_of_ble_eq_true rfl, Nat.le_of_ble_eq_true rfl⟩) rfl ⟨hl.1, Nat.le_of_ble_eq_true rfl, Nat.le_of_ble_eq_true rfl, Nat.le_of_ble_eq_true rfl⟩ rfl dX2_most_27 (fun μ5 H locs hf h => ?_)
      refine lv_aload_n X.hx X.hb dX2_most_30 rfl (lv_at hl 0 rfl) ?_
      refine lv_iload_n X.hx X.hb dX2_most_31 rfl (lv_at hl 1 rfl) ?_
      refine lv_aload_n X.hx X.hb dX2_most_32 rfl (lv_at hl 0 rfl) ?_
      refine r_getP X h (ci := 2) (k := 29) (C := RX2) (T := TX2) (N := 36) rfl in_X2 (by decide) q1088 rfl dX2_most_33 hf (fun i6 hf => ?_)
      refine lv_aload_n X.hx X.hb dX2_most_36 rfl (lv_at hl 0 rfl) ?_
      refine r_getI X h (ci := 2) (k := 30) (C := RX2) (T := TX2) (N := 36) rfl in_X2 (by decide) q1089 rfl dX2_most_37 hf (fun x7 hf => ?_)
      refine r_cVV (As := [.int a1, .ref (ad i6), .int x7]) (rest := []) (C := RX2) (T := TX2) (N := 36) X h hf (fun res hres => wX2_layRow l Γ ad _ b0 a1 i6 x7 res hres) rfl (cwV 3 X.hts (lw_V q1418 q1420 qs66 q84 q1421) rfl rfl rfl (by decide +kernel) ⟨Nat.le_of_ble_eq_true rfl, Nat.le_of_ble_eq_true rfl⟩) rfl ⟨hl.1, Nat.le_of_ble_eq_true rfl, Nat.le_of_ble_eq_true rfl, Nat.le_of_ble_eq_true rfl⟩ rfl dX2_most_40 (fun μ8 H locs hf h => ?_)
      refine lv_aload_n X.hx X.hb dX2_most_43 rfl (lv_at hl 0 rfl) ?_
      refine r_getI X h (ci := 2) (k := 30) (C := RX2) (T := TX2) (N := 36) rfl in_X2 (by decide) q1089 rfl dX2_most_44 hf (fun x9 hf => ?_)
      exact r_ri X h hr hlk (Nat.le_of_ble_eq_true rfl) (Nat.le_of_ble_eq_true rfl) dX2_most_47 hf
    · replace hf := gif_t hf hc
      clear hc
      refine lv_bipush (v := (-4)) X.hx X.hb dX2_most_16 (by decide) ?_
      exact r_ri X h hr hlk (Nat.le_of_ble_eq_true rfl) (Nat.le_of_ble_eq_true rfl) dX2_most_18 hf
  · replace hf := gif_t hf hc
    clear hc
    refine lv_iconst (v := (-1)) X.hx X.hb dX2_most_7 (by decide) ?_
    exact r_ri X h hr hlk (Nat.le_of_ble_eq_true rfl) (Nat.le_of_ble_eq_true rfl) dX2_most_8 hf
/-! X2_needDeed -/
def fX2_needDeed (μ0 : gM) (b0 : Nat) : gR := gI (gfld μ0 b0 2 11) fun x1 => if x1 = 0 then (some (some (.int (-4)), μ0)) else (gI (gfld μ0 b0 2 21) fun x2 => if x2 = 60 then (some (some (.int (-2)), μ0)) else (some (some (.int 0), μ0)))
set_option maxHeartbeats 4000000 in
theorem wX2_needDeed (l : Launch) (Γ : gG) (ad : Nat → Nat) (μ0 : gM) (b0 : Nat) (r : Option Value × gM) (hf : fX2_needDeed μ0 b0 = some r) : gMt0 l Γ yX2_needDeed (ws_ yX2_needDeed cX2_needDeed 1 (some .int)) ({ frames := 0, cells := 0, slots := 0, locals := 0 } : Room) 0 0 ad μ0 [.ref (ad b0)] r := by
  intro sz
  refine g_start (maxL := 1) (ret := (some .int)) (by decide) rfl g_all (Nat.le_of_ble_eq_true rfl) ?_
  intro p e s m below meth c ls hr hlk hnm X h hl
  generalize gA ad μ0 sz = A at X h ⊢
  generalize ([.ref (ad b0)] : List Value).toArray = args at X ⊢
  have X : gX p m c cX2_needDeed 1 s args "SandPianoModel" Γ A := X
  have hl : lv_has ls 1 [(0, .ref (ad b0))] := hl
  show W p l e ({ frames := 0, cells := 0, slots := 0, locals := 0 } : Room) s m args below meth c s.heap [] 0 0 (MQ below (gQ0 Γ ad μ0.1 r A) args s 0 0 A) (F0 m 0 ls [])
  unfold fX2_needDeed at hf
  refine lv_aload_n X.hx X.hb dX2_needDeed_0 rfl (lv_at hl 0 rfl) ?_
  refine r_getI X h (ci := 2) (k := 11) (C := RX2) (T := TX2) (N := 36) rfl in_X2 (by decide) q1070 rfl dX2_needDeed_1 hf (fun x1 hf => ?_)
  refine lv_if_ne (tgt := 12) X.hx X.hb dX2_needDeed_4 (by decide) (fun hc => ?_) (fun hc => ?_)
  · replace hf := gif_f hf hc
    clear hc
    refine lv_aload_n X.hx X.hb dX2_needDeed_12 rfl (lv_at hl 0 rfl) ?_
    refine r_getI X h (ci := 2) (k := 21) (C := RX2) (T := TX2) (N := 36) rfl in_X2 (by decide) q1080 rfl dX2_needDeed_13 hf (fun x2 hf => ?_)
    refine lv_bipush (v := 60) X.hx X.hb dX2_needDeed_16 (by decide) ?_
    refine lv_icmp_ne (tgt := 26) X.hx X.hb dX2_needDeed_18 (by decide) (fun hc => ?_) (fun hc => ?_)
    · replace hf := gif_f hf hc
      clear hc
      refine lv_iconst (v := 0) X.hx X.hb dX2_needDeed_26 (by decide) ?_
      exact r_ri X h hr hlk (Nat.le_of_ble_eq_true rfl) (Nat.le_of_ble_eq_true rfl) dX2_needDeed_27 hf
    · replace hf := gif_t hf hc
      clear hc
      refine lv_bipush (v := (-2)) X.hx X.hb dX2_needDeed_21 (by decide) ?_
      refine lv_goto (tgt := 27) X.hx X.hb dX2_needDeed_23 (by decide) ?_
      exact r_ri X h hr hlk (Nat.le_of_ble_eq_true rfl) (Nat.le_of_ble_eq_true rfl) dX2_needDeed_27 hf
  · replace hf := gif_t hf hc
    clear hc
    refine lv_bipush (v := (-4)) X.hx X.hb dX2_needDeed_7 (by decide) ?_
    refine lv_goto (tgt := 27) X.hx X.hb dX2_needDeed_9 (by decide) ?_
    exact r_ri X h hr hlk (Nat.le_of_ble_eq_true rfl) (Nat.le_of_ble_eq_true rfl) dX2_needDeed_27 hf
/-! X2_needPairs -/
def fX2_needPairs_L37 (b0 : Nat) (a1 : Int32) (kx99 : Int32 → gM → gR) : Nat → Int32 → Int32 → gM → gR
  | 0, _, _, _ => none
  | n8 + 1, x5, x6, μ7 => gP (gfld μ7 b0 2 5) fun i9 => gaI μ7 0 i9 a1 fun x10 => if x10 ≤ x6 then (kx99 x5 μ7) else (gjn (fun (x11 : Int32) (μ12 : gM) => gnm (x6 + 1) fun x14 => fX2_needPairs_L37 b0 a1 kx99 n8 x11 x14 μ12) fun j13 => gjn (fun  (μ15 : gM) => j13 0 μ15) fun j16 => if x5 = 0 then (j16 μ7) else (gjn (fun  (μ17 : gM) => j13 1 μ17) fun j18 => if (x6 - x6 / 2 * 2) = 0 then (gis μ7 b0 2 <| cI (fX2_rowAt μ7 b0 a1 x6) fun x23 μ24 => gis μ24 b0 2 <| cI (fX2_isKey μ24 b0 x23) fun x25 μ26 => if x25 = 0 then (j16 μ26) else (j18 μ26)) else (gis μ7 b0 2 <| cI (fX2_rowAt μ7 b0 a1 x6) fun x19 μ20 => cI (fX2_in μ20 x19 0 1) fun x21 μ22 => if x21 = 0 then (j16 μ22) else (j18 μ22))))
set_option maxHeartbeats 4000000 in
theorem wX2_needPairs_L37 {p : Program} {e : Env} {s : State} {m : MethodId} {args : Array Value} {below : List Frame} {meth : Method} {c : Code} {Γ : gG} {A : Nat → Prop} {nz : Nat} {ad : Nat → Nat} {r : Option Value × gM} (l : Launch) (b0 : Nat) (a1 : Int32) (kx99 : Int32 → gM → gR) (X : gX p m c cX2_needPairs 4 s args "SandPianoModel" Γ A) (hr : meth.sig.returnType = (some .int)) (hlk : meth.locks = false) (hk99 : ∀ (x27 : Int32) (μ : gM) (H : Heap) (locs : List Loc) (ls : Array Slot), kx99 x27 μ = some r → gWd Γ A nz ad μ s.heap H locs → lv_has ls 4 [(0, .ref (ad b0)), (2, .int x27)] → W p l e ({ frames := 2, cells := 0, slots := 0, locals := 43 } : Room) s m args below meth c H locs 0 0 (MQ below (gQ0 Γ ad nz r A) args s 0 0 A) (F0 m 99 ls [])) : ∀ (n8 : Nat) (x5 : Int32) (x6 : Int32) (μ7 : gM) (H : Heap) (locs : List Loc) (ls : Array Slot), fX2_needPairs_L37 b0 a1 kx99 n8 x5 x6 μ7 = some r → gWd Γ A nz ad μ7 s.heap H locs → lv_has ls 4 [(0, .ref (ad b0)), (1, .int a1), (2, .int x5), (3, .int x6)] → W p l e ({ frames := 2, cells := 0, slots := 0, locals := 43 } : Room) s m args below meth c H locs 0 0 (MQ below (gQ0 Γ ad nz r A) args s 0 0 A) (F0 m 37 ls []) := by
  intro n8
  induction n8 with
  | zero =>
    intro x5 x6 μ7 H locs ls hf h hl
    have hf : (none : gR) = some r := hf
    cases hf
  | succ n8 ih =>
    intro x5 x6 μ7 H locs ls hf h hl
    rw [fX2_needPairs_L37] at hf
    refine lv_iload_n X.hx X.hb dX2_needPairs_37 rfl (lv_at hl 3 rfl) ?_
    refine lv_aload_n X.hx X.hb dX2_needPairs_38 rfl (lv_at hl 0 rfl) ?_
    refine r_getP X h (ci := 2) (k := 5) (C := RX2) (T := TX2) (N := 36) rfl in_X2 (by decide) q1064 rfl dX2_needPairs_39 hf (fun i9 hf => ?_)
    refine lv_iload_n X.hx X.hb dX2_needPairs_42 rfl (lv_at hl 1 rfl) ?_
    refine r_iald X h dX2_needPairs_43 hf (fun x10 hf => ?_)
    refine lv_icmp_ge (tgt := 99) X.hx X.hb dX2_needPairs_44 (by decide) (fun hc => ?_) (fun hc => ?_)
    · replace hf := gif_t hf hc
      clear hc
      exact hk99 _ _ _ _ _ hf h (lv_sub hl [0, 2] rfl)
    · replace hf := gif_f hf hc
      clear hc
      refine lv_iload_n X.hx X.hb dX2_needPairs_47 rfl (lv_at hl 2 rfl) ?_
      refine r_jn hf (fun j13 ej13 hf => ?_)
      have hj13 : ∀ (x11 : Int32) (μ12 : gM) (H : Heap) (locs : List Loc) (ls : Array Slot), j13 x11 μ12 = some r → gWd Γ A nz ad μ12 s.heap H locs → lv_has ls 4 [(0, .ref (ad b0)), (1, .int a1), (3, .int x6)] → W p l e ({ frames := 2, cells := 0, slots := 0, locals := 43 } : Room) s m args below meth c H locs 0 0 (MQ below (gQ0 Γ ad nz r A) args s 0 0 A) (F0 m 92 ls [.int x11]) := by
        intro x11 μ12 H locs ls hf h hl
        rw [ej13] at hf
        refine lv_istore_n (lv' := [(2, .int x11), (0, .ref (ad b0)), (1, .int a1), (3, .int x6)]) X.hx X.hb dX2_needPairs_92 rfl hl (by decide) rfl (fun ls hl => ?_)
        refine r_nmk hf (fun x14 ex hf => ?_)
        refine lv_iinc (v := x14) (lv' := [(3, .int x14), (2, .int x11), (0, .ref (ad b0)), (1, .int a1)]) X.hx X.hb dX2_needPairs_93 hl (k := 3) rfl (by rw [ex]; rfl) (by decide) rfl (fun ls hl => ?_)
        clear ex
        refine lv_goto (tgt := 37) X.hx X.hb dX2_needPairs_96 (by decide) ?_
        exact ih _ _ _ _ _ _ hf h (lv_sub hl [2, 3, 1, 0] rfl)
      clear ej13
      refine r_jn hf (fun j16 ej16 hf => ?_)
      have hj16 : ∀  (μ15 : gM) (H : Heap) (locs : List Loc) (ls : Array Slot), j16  μ15 = some r → gWd Γ A nz ad μ15 s.heap H locs → lv_has ls 4 [(0, .ref (ad b0)), (1, .int a1), (3, .int x6)] → W p l e ({ frames := 2, cells := 0, slots := 0, locals := 43 } : Room) s m args below meth c H locs 0 0 (MQ below (gQ0 Γ ad nz r A) args s 0 0 A) (F0 m 91 ls []) := by
        intro μ15 H locs ls hf h hl
        rw [ej16] at hf
        refine lv_iconst (v := 0) X.hx X.hb dX2_needPairs_91 (by decide) ?_
        exact hj13 _ _ _ _ _ hf h (lv_sub hl [0, 1, 2] rfl)
      clear ej16
      refine lv_if_eq (tgt := 91) X.hx X.hb dX2_needPairs_48 (by decide) (fun hc => ?_) (fun hc => ?_)
      · replace hf := gif_t hf hc
        clear hc
        exact hj16 _ _ _ _ hf h (lv_sub hl [0, 1, 3] rfl)
      · replace hf := gif_f hf hc
        clear hc
        refine lv_iload_n X.hx X.hb dX2_needPairs_51 rfl (lv_at hl 3 rfl) ?_
        refine lv_iconst (v := 2) X.hx X.hb dX2_needPairs_52 (by decide) ?_
        refine lv_irem X.hx X.hb dX2_needPairs_53 (by decide) ?_
        refine r_jn hf (fun j18 ej18 hf => ?_)
        have hj18 : ∀  (μ17 : gM) (H : Heap) (locs : List Loc) (ls : Array Slot), j18  μ17 = some r → gWd Γ A nz ad μ17 s.heap H locs → lv_has ls 4 [(0, .ref (ad b0)), (1, .int a1), (3, .int x6)] → W p l e ({ frames := 2, cells := 0, slots := 0, locals := 43 } : Room) s m args below meth c H locs 0 0 (MQ below (gQ0 Γ ad nz r A) args s 0 0 A) (F0 m 87 ls []) := by
          intro μ17 H locs ls hf h hl
          rw [ej18] at hf
          refine lv_iconst (v := 1) X.hx X.hb dX2_needPairs_87 (by decide) ?_
          refine lv_goto (tgt := 92) X.hx X.hb dX2_needPairs_88 (by decide) ?_
          exact hj13 _ _ _ _ _ hf h (lv_sub hl [0, 1, 2] rfl)
        clear ej18
        refine lv_if_ne (tgt := 73) X.hx X.hb dX2_needPairs_54 (by decide) (fun hc => ?_) (fun hc => ?_)
        · replace hf := gif_f hf hc
          clear hc
          refine lv_aload_n X.hx X.hb dX2_needPairs_73 rfl (lv_at hl 0 rfl) ?_
          refine lv_iload_n X.hx X.hb dX2_needPairs_74 rfl (lv_at hl 1 rfl) ?_
          refine lv_iload_n X.hx X.hb dX2_needPairs_75 rfl (lv_at hl 3 rfl) ?_
          refine r_cVI (As := [.int a1, .int x6]) (rest := []) (C := RX2) (T := TX2) (N := 36) X h hf (fun res hres => wX2_rowAt l Γ ad _ b0 a1 x6 res hres) rfl (cwV 2 X.hts (lw_V q1207 q1209 qs39 q84 q1210) rfl rfl rfl (by decide +kernel) ⟨Nat.le_of_ble_eq_true rfl, Nat.le_of_ble_eq_true rfl⟩) rfl ⟨hl.1, Nat.le_of_ble_eq_true rfl, Nat.le_of_ble_eq_true rfl, Nat.le_of_ble_eq_true rfl⟩ rfl dX2_needPairs_76 (fun x19 μ20 H locs hf h => ?_)
          refine lv_iconst (v := 0) X.hx X.hb dX2_needPairs_79 (by decide) ?_
          refine lv_iconst (v := 1) X.hx X.hb dX2_needPairs_80 (by decide) ?_
          refine r_cSI (As := [.int x19, .int 0, .int 1]) (rest := []) X h hf (fun res hres => wX2_in l Γ ad _ x19 0 1 res hres) (va_cwS 3 X.hts (lw_S q1177 q1178 q84 q1179) rfl rfl rfl (by decide +kernel) ⟨Nat.le_of_ble_eq_true rfl, Nat.le_of_ble_eq_true rfl⟩) rfl ⟨hl.1, Nat.le_of_ble_eq_true rfl, Nat.le_of_ble_eq_true rfl, Nat.le_of_ble_eq_true rfl⟩ rfl dX2_needPairs_81 (fun x21 μ22 H locs hf h => ?_)
          refine lv_if_eq (tgt := 91) X.hx X.hb dX2_needPairs_84 (by decide) (fun hc => ?_) (fun hc => ?_)
          · replace hf := gif_t hf hc
            clear hc
            exact hj16 _ _ _ _ hf h (lv_sub hl [0, 1, 3] rfl)
          · replace hf := gif_f hf hc
            clear hc
            exact hj18 _ _ _ _ hf h (lv_sub hl [0, 1, 3] rfl)
        · replace hf := gif_t hf hc
          clear hc
          refine lv_aload_n X.hx X.hb dX2_needPairs_57 rfl (lv_at hl 0 rfl) ?_
          refine lv_aload_n X.hx X.hb dX2_needPairs_58 rfl (lv_at hl 0 rfl) ?_
          refine lv_iload_n X.hx X.hb dX2_needPairs_59 rfl (lv_at hl 1 rfl) ?_
          refine lv_iload_n X.hx X.hb dX2_needPairs_60 rfl (lv_at hl 3 rfl) ?_
          refine r_cVI (As := [.int a1, .int x6]) (rest := [.ref (ad b0)]) (C := RX2) (T := TX2) (N := 36) X h hf (fun res hres => wX2_rowAt l Γ ad _ b0 a1 x6 res hres) rfl (cwV 2 X.hts (lw_V q1207 q1209 qs39 q84 q1210) rfl rfl rfl (by decide +kernel) ⟨Nat.le_of_ble_eq_true rfl, Nat.le_of_ble_eq_true rfl⟩) rfl ⟨hl.1, Nat.le_of_ble_eq_true rfl, Nat.le_of_ble_eq_true rfl, Nat.le_of_ble_eq_true rfl⟩ rfl dX2_needPairs_61 (fun x23 μ24 H locs hf h => ?_)
          refine r_cVI (As := [.int x23]) (rest := []) (C := RX2) (T := TX2) (N := 36) X h hf (fun res hres => wX2_isKey l Γ ad _ b0 x23 res hres) rfl (cwV 1 X.hts (lw_V q1281 q1283 qs47 q84 q1284) rfl rfl rfl (by decide +kernel) ⟨Nat.le_of_ble_eq_true rfl, Nat.le_of_ble_eq_true rfl⟩) rfl ⟨hl.1, Nat.le_of_ble_eq_true rfl, Nat.le_of_ble_eq_true rfl, Nat.le_of_ble_eq_true rfl⟩ rfl dX2_needPairs_64 (fun x25 μ26 H locs hf h => ?_)
          refine lv_if_eq (tgt := 91) X.hx X.hb dX2_needPairs_67 (by decide) (fun hc => ?_) (fun hc => ?_)
          · replace hf := gif_t hf hc
            clear hc
            exact hj16 _ _ _ _ hf h (lv_sub hl [0, 1, 3] rfl)
          · replace hf := gif_f hf hc
            clear hc
            refine lv_goto (tgt := 87) X.hx X.hb dX2_needPairs_70 (by decide) ?_
            exact hj18 _ _ _ _ hf h (lv_sub hl [0, 1, 3] rfl)
def fX2_needPairs (μ0 : gM) (b0 : Nat) (a1 : Int32) : gR := gP (gfld μ0 b0 2 5) fun i1 => gaI μ0 0 i1 a1 fun x2 => if 0 ≤ x2 then (gP (gfld μ0 b0 2 5) fun i3 => gaI μ0 0 i3 a1 fun x4 => if (x4 - x4 / 2 * 2) = 1 then (gis μ0 b0 2 <| cI (fX2_meets μ0 b0 5) fun x32 μ33 => some (some (.int x32), μ33)) else (fX2_needPairs_L37 b0 a1 (fun (x28 : Int32) (μ29 : gM) => if x28 = 0 then (gis μ29 b0 2 <| cI (fX2_meets μ29 b0 3) fun x30 μ31 => some (some (.int x30), μ31)) else (some (some (.int 0), μ29))) 10000 1 0 μ0)) else (gis μ0 b0 2 <| cI (fX2_meets μ0 b0 1) fun x34 μ35 => some (some (.int x34), μ35))
set_option maxHeartbeats 4000000 in
theorem wX2_needPairs (l : Launch) (Γ : gG) (ad : Nat → Nat) (μ0 : gM) (b0 : Nat) (a1 : Int32) (r : Option Value × gM) (hf : fX2_needPairs μ0 b0 a1 = some r) : gMt0 l Γ yX2_needPairs (ws_ yX2_needPairs cX2_needPairs 4 (some .int)) ({ frames := 2, cells := 0, slots := 0, locals := 43 } : Room) 0 0 ad μ0 [.ref (ad b0), .int a1] r := by
  intro sz
  refine g_start (maxL := 4) (ret := (some .int)) (by decide) rfl g_all (Nat.le_of_ble_eq_true rfl) ?_
  intro p e s m below meth c ls hr hlk hnm X h hl
  generalize gA ad μ0 sz = A at X h ⊢
  generalize ([.ref (ad b0), .int a1] : List Value).toArray = args at X ⊢
  have X : gX p m c cX2_needPairs 4 s args "SandPianoModel" Γ A := X
  have hl : lv_has ls 4 [(0, .ref (ad b0)), (1, .int a1)] := hl
  show W p l e ({ frames := 2, cells := 0, slots := 0, locals := 43 } : Room) s m args below meth c s.heap [] 0 0 (MQ below (gQ0 Γ ad μ0.1 r A) args s 0 0 A) (F0 m 0 ls [])
  unfold fX2_needPairs at hf
  refine lv_aload_n X.hx X.hb dX2_needPairs_0 rfl (lv_at hl 0 rfl) ?_
  refine r_getP X h (ci := 2) (k := 5) (C := RX2) (T := TX2) (N := 36) rfl in_X2 (by decide) q1064 rfl dX2_needPairs_1 hf (fun i1 hf => ?_)
  refine lv_iload_n X.hx X.hb dX2_needPairs_4 rfl (lv_at hl 1 rfl) ?_
  refine r_iald X h dX2_needPairs_5 hf (fun x2 hf => ?_)
  refine lv_if_ge (tgt := 15) X.hx X.hb dX2_needPairs_6 (by decide) (fun hc => ?_) (fun hc => ?_)
  · replace hf := gif_t hf hc
    clear hc
    refine lv_aload_n X.hx X.hb dX2_needPairs_15 rfl (lv_at hl 0 rfl) ?_
    refine r_getP X h (ci := 2) (k := 5) (C := RX2) (T := TX2) (N := 36) rfl in_X2 (by decide) q1064 rfl dX2_needPairs_16 hf (fun i3 hf => ?_)
    refine lv_iload_n X.hx X.hb dX2_needPairs_19 rfl (lv_at hl 1 rfl) ?_
    refine r_iald X h dX2_needPairs_20 hf (fun x4 hf => ?_)
    refine lv_iconst (v := 2) X.hx X.hb dX2_needPairs_21 (by decide) ?_
    refine lv_irem X.hx X.hb dX2_needPairs_22 (by decide) ?_
    refine lv_iconst (v := 1) X.hx X.hb dX2_needPairs_23 (by decide) ?_
    refine lv_icmp_ne (tgt := 33) X.hx X.hb dX2_needPairs_24 (by decide) (fun hc => ?_) (fun hc => ?_)
    · replace hf := gif_f hf hc
      clear hc
      refine lv_iconst (v := 1) X.hx X.hb dX2_needPairs_33 (by decide) ?_
      refine lv_istore_n (lv' := [(2, .int 1), (0, .ref (ad b0)), (1, .int a1)]) X.hx X.hb dX2_needPairs_34 rfl hl (by decide) rfl (fun ls hl => ?_)
      refine lv_iconst (v := 0) X.hx X.hb dX2_needPairs_35 (by decide) ?_
      refine lv_istore_n (lv' := [(3, .int 0), (2, .int 1), (0, .ref (ad b0)), (1, .int a1)]) X.hx X.hb dX2_needPairs_36 rfl hl (by decide) rfl (fun ls hl => ?_)
      refine wX2_needPairs_L37 l b0 a1 _ X hr hlk (fun x28 μ29 H locs ls hf h hl => ?_) 10000 _ _ _ _ _ _ hf h (lv_sub hl [2, 3, 1, 0] rfl)
      refine lv_iload_n X.hx X.hb dX2_needPairs_99 rfl (lv_at hl 1 rfl) ?_
      refine lv_if_eq (tgt := 107) X.hx X.hb dX2_needPairs_100 (by decide) (fun hc => ?_) (fun hc => ?_)
      · replace hf := gif_t hf hc
        clear hc
        refine lv_aload_n X.hx X.hb dX2_needPairs_107 rfl (lv_at hl 0 rfl) ?_
        refine lv_iconst (v := 3) X.hx X.hb dX2_needPairs_108 (by decide) ?_
        refine r_cVI (As := [.int 3]) (rest := []) (C := RX2) (T := TX2) (N := 36) X h hf (fun res hres => wX2_meets l Γ ad _ b0 3 res hres) rfl (cwV 1 X.hts (lw_V q1199 q1201 qs38 q84 q1202) rfl rfl rfl (by decide +kernel) ⟨Nat.le_of_ble_eq_true rfl, Nat.le_of_ble_eq_true rfl⟩) rfl ⟨hl.1, Nat.le_of_ble_eq_true rfl, Nat.le_of_ble_eq_true rfl, Nat.le_of_ble_eq_true rfl⟩ rfl dX2_needPairs_109 (fun x30 μ31 H locs hf h => ?_)
        exact r_ri X h hr hlk (Nat.le_of_ble_eq_true rfl) (Nat.le_of_ble_eq_true rfl) dX2_needPairs_112 hf
      · replace hf := gif_f hf hc
        clear hc
        refine lv_iconst (v := 0) X.hx X.hb dX2_needPairs_103 (by decide) ?_
        refine lv_goto (tgt := 112) X.hx X.hb dX2_needPairs_104 (by decide) ?_
        exact r_ri X h hr hlk (Nat.le_of_ble_eq_true rfl) (Nat.le_of_ble_eq_true rfl) dX2_needPairs_112 hf
    · replace hf := gif_t hf hc
      clear hc
      refine lv_aload_n X.hx X.hb dX2_needPairs_27 rfl (lv_at hl 0 rfl) ?_
      refine lv_iconst (v := 5) X.hx X.hb dX2_needPairs_28 (by decide) ?_
      refine r_cVI (As := [.int 5]) (rest := []) (C := RX2) (T := TX2) (N := 36) X h hf (fun res hres => wX2_meets l Γ ad _ b0 5 res hres) rfl (cwV 1 X.hts (lw_V q1199 q1201 qs38 q84 q1202) rfl rfl rfl (by decide +kernel) ⟨Nat.le_of_ble_eq_true rfl, Nat.le_of_ble_eq_true rfl⟩) rfl ⟨hl.1, Nat.le_of_ble_eq_true rfl, Nat.le_of_ble_eq_true rfl, Nat.le_of_ble_eq_true rfl⟩ rfl dX2_needPairs_29 (fun x32 μ33 H locs hf h => ?_)
      exact r_ri X h hr hlk (Nat.le_of_ble_eq_true rfl) (Nat.le_of_ble_eq_true rfl) dX2_needPairs_32 hf
  · replace hf := gif_f hf hc
    clear hc
    refine lv_aload_n X.hx X.hb dX2_needPairs_9 rfl (lv_at hl 0 rfl) ?_
    refine lv_iconst (v := 1) X.hx X.hb dX2_needPairs_10 (by decide) ?_
    refine r_cVI (As := [.int 1]) (rest := []) (C := RX2) (T := TX2) (N := 36) X h hf (fun res hres => wX2_meets l Γ ad _ b0 1 res hres) rfl (cwV 1 X.hts (lw_V q1199 q1201 qs38 q84 q1202) rfl rfl rfl (by decide +kernel) ⟨Nat.le_of_ble_eq_true rfl, Nat.le_of_ble_eq_true rfl⟩) rfl ⟨hl.1, Nat.le_of_ble_eq_true rfl, Nat.le_of_ble_eq_true rfl, Nat.le_of_ble_eq_true rfl⟩ rfl dX2_needPairs_11 (fun x34 μ35 H locs hf h => ?_)
    exact r_ri X h hr hlk (Nat.le_of_ble_eq_true rfl) (Nat.le_of_ble_eq_true rfl) dX2_needPairs_14 hf
/-! X2_on -/
def fX2_on_L48 (b0 : Nat) (a1 : Int32) (kx77 : gM → gR) : Nat → Int32 → gM → gR
  | 0, _, _ => none
  | n13 + 1, x11, μ12 => if 9 ≤ x11 then (kx77 μ12) else (gP (gfld μ12 b0 2 26) fun i14 => gaI μ12 0 i14 ((9 * a1) + x11) fun x15 => gis μ12 b0 2 <| cV (fX2_place μ12 b0 0 x11 x15) fun μ16 => gnm (x11 + 1) fun x17 => fX2_on_L48 b0 a1 kx77 n13 x17 μ16)
set_option maxHeartbeats 4000000 in
theorem wX2_on_L48 {p : Program} {e : Env} {s : State} {m : MethodId} {args : Array Value} {below : List Frame} {meth : Method} {c : Code} {Γ : gG} {A : Nat → Prop} {nz : Nat} {ad : Nat → Nat} {r : Option Value × gM} (l : Launch) (b0 : Nat) (a1 : Int32) (kx77 : gM → gR) (X : gX p m c cX2_on 3 s args "SandPianoModel" Γ A) (hr : meth.sig.returnType = (some .int)) (hlk : meth.locks = false) (hk77 : ∀  (μ : gM) (H : Heap) (locs : List Loc) (ls : Array Slot), kx77  μ = some r → gWd Γ A nz ad μ s.heap H locs → lv_has ls 3 [(0, .ref (ad b0)), (1, .int a1)] → W p l e ({ frames := 1, cells := 0, slots := 0, locals := 23 } : Room) s m args below meth c H locs 0 0 (MQ below (gQ0 Γ ad nz r A) args s 0 0 A) (F0 m 77 ls [])) : ∀ (n13 : Nat) (x11 : Int32) (μ12 : gM) (H : Heap) (locs : List Loc) (ls : Array Slot), fX2_on_L48 b0 a1 kx77 n13 x11 μ12 = some r → gWd Γ A nz ad μ12 s.heap H locs → lv_has ls 3 [(0, .ref (ad b0)), (1, .int a1), (2, .int x11)] → W p l e ({ frames := 1, cells := 0, slots := 0, locals := 23 } : Room) s m args below meth c H locs 0 0 (MQ below (gQ0 Γ ad nz r A) args s 0 0 A) (F0 m 48 ls []) := by
  intro n13
  induction n13 with
  | zero =>
    intro x11 μ12 H locs ls hf h hl
    have hf : (none : gR) = some r := hf
    cases hf
  | succ n13 ih =>
    intro x11 μ12 H locs ls hf h hl
    rw [fX2_on_L48] at hf
    refine lv_iload_n X.hx X.hb dX2_on_48 rfl (lv_at hl 2 rfl) ?_
    refine lv_bipush (v := 9) X.hx X.hb dX2_on_49 (by decide) ?_
    refine lv_icmp_ge (tgt := 77) X.hx X.hb dX2_on_51 (by decide) (fun hc => ?_) (fun hc => ?_)
    · replace hf := gif_t hf hc
      clear hc
      exact hk77 _ _ _ _ hf h (lv_sub hl [0, 1] rfl)
    · replace hf := gif_f hf hc
      clear hc
      refine lv_aload_n X.hx X.hb dX2_on_54 rfl (lv_at hl 0 rfl) ?_
      refine lv_iconst (v := 0) X.hx X.hb dX2_on_55 (by decide) ?_
      refine lv_iload_n X.hx X.hb dX2_on_56 rfl (lv_at hl 2 rfl) ?_
      refine lv_aload_n X.hx X.hb dX2_on_57 rfl (lv_at hl 0 rfl) ?_
      refine r_getP X h (ci := 2) (k := 26) (C := RX2) (T := TX2) (N := 36) rfl in_X2 (by decide) q1085 rfl dX2_on_58 hf (fun i14 hf => ?_)
      refine lv_bipush (v := 9) X.hx X.hb dX2_on_61 (by decide) ?_
      refine lv_iload_n X.hx X.hb dX2_on_63 rfl (lv_at hl 1 rfl) ?_
      refine lv_imul X.hx X.hb dX2_on_64 ?_
      refine lv_iload_n X.hx X.hb dX2_on_65 rfl (lv_at hl 2 rfl) ?_
      refine lv_iadd X.hx X.hb dX2_on_66 ?_
      refine r_iald X h dX2_on_67 hf (fun x15 hf => ?_)
      refine r_cVV (As := [.int 0, .int x11, .int x15]) (rest := []) (C := RX2) (T := TX2) (N := 36) X h hf (fun res hres => wX2_place l Γ ad _ b0 0 x11 x15 res hres) rfl (cwV 3 X.hts (lw_V q1273 q1275 qs46 q84 q1276) rfl rfl rfl (by decide +kernel) ⟨Nat.le_of_ble_eq_true rfl, Nat.le_of_ble_eq_true rfl⟩) rfl ⟨hl.1, Nat.le_of_ble_eq_true rfl, Nat.le_of_ble_eq_true rfl, Nat.le_of_ble_eq_true rfl⟩ rfl dX2_on_68 (fun μ16 H locs hf h => ?_)
      refine r_nmk hf (fun x17 ex hf => ?_)
      refine lv_iinc (v := x17) (lv' := [(2, .int x17), (0, .ref (ad b0)), (1, .int a1)]) X.hx X.hb dX2_on_71 hl (k := 2) rfl (by rw [ex]; rfl) (by decide) rfl (fun ls hl => ?_)
      clear ex
      refine lv_goto (tgt := 48) X.hx X.hb dX2_on_74 (by decide) ?_
      exact ih _ _ _ _ _ hf h (lv_sub hl [1, 2, 0] rfl)
def fX2_on_L79 (b0 : Nat) (a1 : Int32) (kx114 : gM → gR) : Nat → Int32 → gM → gR
  | 0, _, _ => none
  | n21 + 1, x19, μ20 => gI (gfld μ20 b0 2 21) fun x22 => if (9 * x22) ≤ x19 then (kx114 μ20) else (gP (gfld μ20 b0 2 22) fun i23 => gP (gfld μ20 b0 2 27) fun i24 => gaI μ20 0 i24 ((540 * a1) + x19) fun x25 => gsI μ20 0 i23 x19 x25 fun μ26 => gnm (x19 + 1) fun x27 => fX2_on_L79 b0 a1 kx114 n21 x27 μ26)
set_option maxHeartbeats 4000000 in
theorem wX2_on_L79 {p : Program} {e : Env} {s : State} {m : MethodId} {args : Array Value} {below : List Frame} {meth : Method} {c : Code} {Γ : gG} {A : Nat → Prop} {nz : Nat} {ad : Nat → Nat} {r : Option Value × gM} (l : Launch) (b0 : Nat) (a1 : Int32) (kx114 : gM → gR) (X : gX p m c cX2_on 3 s args "SandPianoModel" Γ A) (hr : meth.sig.returnType = (some .int)) (hlk : meth.locks = false) (hk114 : ∀  (μ : gM) (H : Heap) (locs : List Loc) (ls : Array Slot), kx114  μ = some r → gWd Γ A nz ad μ s.heap H locs → lv_has ls 3 [(0, .ref (ad b0))] → W p l e ({ frames := 1, cells := 0, slots := 0, locals := 23 } : Room) s m args below meth c H locs 0 0 (MQ below (gQ0 Γ ad nz r A) args s 0 0 A) (F0 m 114 ls [])) : ∀ (n21 : Nat) (x19 : Int32) (μ20 : gM) (H : Heap) (locs : List Loc) (ls : Array Slot), fX2_on_L79 b0 a1 kx114 n21 x19 μ20 = some r → gWd Γ A nz ad μ20 s.heap H locs → lv_has ls 3 [(0, .ref (ad b0)), (1, .int a1), (2, .int x19)] → W p l e ({ frames := 1, cells := 0, slots := 0, locals := 23 } : Room) s m args below meth c H locs 0 0 (MQ below (gQ0 Γ ad nz r A) args s 0 0 A) (F0 m 79 ls []) := by
  intro n21
  induction n21 with
  | zero =>
    intro x19 μ20 H locs ls hf h hl
    have hf : (none : gR) = some r := hf
    cases hf
  | succ n21 ih =>
    intro x19 μ20 H locs ls hf h hl
    rw [fX2_on_L79] at hf
    refine lv_iload_n X.hx X.hb dX2_on_79 rfl (lv_at hl 2 rfl) ?_
    refine lv_bipush (v := 9) X.hx X.hb dX2_on_80 (by decide) ?_
    refine lv_aload_n X.hx X.hb dX2_on_82 rfl (lv_at hl 0 rfl) ?_
    refine r_getI X h (ci := 2) (k := 21) (C := RX2) (T := TX2) (N := 36) rfl in_X2 (by decide) q1080 rfl dX2_on_83 hf (fun x22 hf => ?_)
    refine lv_imul X.hx X.hb dX2_on_86 ?_
    refine lv_icmp_ge (tgt := 114) X.hx X.hb dX2_on_87 (by decide) (fun hc => ?_) (fun hc => ?_)
    · replace hf := gif_t hf hc
      clear hc
      exact hk114 _ _ _ _ hf h (lv_sub hl [0] rfl)
    · replace hf := gif_f hf hc
      clear hc
      refine lv_aload_n X.hx X.hb dX2_on_90 rfl (lv_at hl 0 rfl) ?_
      refine r_getP X h (ci := 2) (k := 22) (C := RX2) (T := TX2) (N := 36) rfl in_X2 (by decide) q1081 rfl dX2_on_91 hf (fun i23 hf => ?_)
      refine lv_iload_n X.hx X.hb dX2_on_94 rfl (lv_at hl 2 rfl) ?_
      refine lv_aload_n X.hx X.hb dX2_on_95 rfl (lv_at hl 0 rfl) ?_
      refine r_getP X h (ci := 2) (k := 27) (C := RX2) (T := TX2) (N := 36) rfl in_X2 (by decide) q1086 rfl dX2_on_96 hf (fun i24 hf => ?_)
      refine lv_sipush (v := 540) X.hx X.hb dX2_on_99 (by decide) ?_
      refine lv_iload_n X.hx X.hb dX2_on_102 rfl (lv_at hl 1 rfl) ?_
      refine lv_imul X.hx X.hb dX2_on_103 ?_
      refine lv_iload_n X.hx X.hb dX2_on_104 rfl (lv_at hl 2 rfl) ?_
      refine lv_iadd X.hx X.hb dX2_on_105 ?_
      refine r_iald X h dX2_on_106 hf (fun x25 hf => ?_)
      refine r_iast X h dX2_on_107 hf (fun μ26 H locs hf h => ?_)
      refine r_nmk hf (fun x27 ex hf => ?_)
      refine lv_iinc (v := x27) (lv' := [(2, .int x27), (0, .ref (ad b0)), (1, .int a1)]) X.hx X.hb dX2_on_108 hl (k := 2) rfl (by rw [ex]; rfl) (by decide) rfl (fun ls hl => ?_)
      clear ex
      refine lv_goto (tgt := 79) X.hx X.hb dX2_on_111 (by decide) ?_
      exact ih _ _ _ _ _ hf h (lv_sub hl [1, 2, 0] rfl)
def fX2_on (μ0 : gM) (b0 : Nat) (a1 : Int32) : gR := cI (fX2_in μ0 a1 0 2) fun x1 μ2 => if x1 = 0 then (some (some (.int (-1)), μ2)) else (gP (gfld μ2 b0 2 23) fun i3 => gaI μ2 2 i3 a1 fun x4 => if x4 = 0 then (gis μ2 b0 2 <| cI (fX2_meets μ2 b0 1) fun x30 μ31 => some (some (.int x30), μ31)) else (gP (gfld μ2 b0 2 24) fun i5 => gaI μ2 0 i5 a1 fun x6 => gpf μ2 b0 2 21 (.int x6) fun μ7 => gP (gfld μ7 b0 2 25) fun i8 => gaI μ7 0 i8 a1 fun x9 => gpf μ7 b0 2 10 (.int x9) fun μ10 => fX2_on_L48 b0 a1 (fun (μ18 : gM) => fX2_on_L79 b0 a1 (fun (μ28 : gM) => gI (gfld μ28 b0 2 21) fun x29 => some (some (.int x29), μ28)) 10000 0 μ18) 10000 0 μ10))
set_option maxHeartbeats 4000000 in
theorem wX2_on (l : Launch) (Γ : gG) (ad : Nat → Nat) (μ0 : gM) (b0 : Nat) (a1 : Int32) (r : Option Value × gM) (hf : fX2_on μ0 b0 a1 = some r) : gMt0 l Γ yX2_on (ws_ yX2_on cX2_on 3 (some .int)) ({ frames := 1, cells := 0, slots := 0, locals := 23 } : Room) 0 0 ad μ0 [.ref (ad b0), .int a1] r := by
  intro sz
  refine g_start (maxL := 3) (ret := (some .int)) (by decide) rfl g_all (Nat.le_of_ble_eq_true rfl) ?_
  intro p e s m below meth c ls hr hlk hnm X h hl
  generalize gA ad μ0 sz = A at X h ⊢
  generalize ([.ref (ad b0), .int a1] : List Value).toArray = args at X ⊢
  have X : gX p m c cX2_on 3 s args "SandPianoModel" Γ A := X
  have hl : lv_has ls 3 [(0, .ref (ad b0)), (1, .int a1)] := hl
  show W p l e ({ frames := 1, cells := 0, slots := 0, locals := 23 } : Room) s m args below meth c s.heap [] 0 0 (MQ below (gQ0 Γ ad μ0.1 r A) args s 0 0 A) (F0 m 0 ls [])
  unfold fX2_on at hf
  refine lv_iload_n X.hx X.hb dX2_on_0 rfl (lv_at hl 1 rfl) ?_
  refine lv_iconst (v := 0) X.hx X.hb dX2_on_1 (by decide) ?_
  refine lv_iconst (v := 2) X.hx X.hb dX2_on_2 (by decide) ?_
  refine r_cSI (As := [.int a1, .int 0, .int 2]) (rest := []) X h hf (fun res hres => wX2_in l Γ ad _ a1 0 2 res hres) (va_cwS 3 X.hts (lw_S q1177 q1178 q84 q1179) rfl rfl rfl (by decide +kernel) ⟨Nat.le_of_ble_eq_true rfl, Nat.le_of_ble_eq_true rfl⟩) rfl ⟨hl.1, Nat.le_of_ble_eq_true rfl, Nat.le_of_ble_eq_true rfl, Nat.le_of_ble_eq_true rfl⟩ rfl dX2_on_3 (fun x1 μ2 H locs hf h => ?_)
  refine lv_if_ne (tgt := 11) X.hx X.hb dX2_on_6 (by decide) (fun hc => ?_) (fun hc => ?_)
  · replace hf := gif_f hf hc
    clear hc
    refine lv_aload_n X.hx X.hb dX2_on_11 rfl (lv_at hl 0 rfl) ?_
    refine r_getP X h (ci := 2) (k := 23) (C := RX2) (T := TX2) (N := 36) rfl in_X2 (by decide) q1082 rfl dX2_on_12 hf (fun i3 hf => ?_)
    refine lv_iload_n X.hx X.hb dX2_on_15 rfl (lv_at hl 1 rfl) ?_
    refine r_zald X h dX2_on_16 hf (fun x4 hf => ?_)
    refine lv_if_ne (tgt := 26) X.hx X.hb dX2_on_17 (by decide) (fun hc => ?_) (fun hc => ?_)
    · replace hf := gif_f hf hc
      clear hc
      refine lv_aload_n X.hx X.hb dX2_on_26 rfl (lv_at hl 0 rfl) ?_
      refine lv_aload_n X.hx X.hb dX2_on_27 rfl (lv_at hl 0 rfl) ?_
      refine r_getP X h (ci := 2) (k := 24) (C := RX2) (T := TX2) (N := 36) rfl in_X2 (by decide) q1083 rfl dX2_on_28 hf (fun i5 hf => ?_)
      refine lv_iload_n X.hx X.hb dX2_on_31 rfl (lv_at hl 1 rfl) ?_
      refine r_iald X h dX2_on_32 hf (fun x6 hf => ?_)
      refine r_put X h (ci := 2) (k := 21) (C := RX2) (T := TX2) (N := 36) (ty0 := tyX2) (ty := .int) (v := .int x6) rfl in_X2 tyX2_ok nmX2 (by decide) q1080 rfl rfl (by decide +kernel) rfl rfl (fun j hj => by cases hj) dX2_on_33 hf (fun μ7 H locs hf h => ?_)
      refine lv_aload_n X.hx X.hb dX2_on_36 rfl (lv_at hl 0 rfl) ?_
      refine lv_aload_n X.hx X.hb dX2_on_37 rfl (lv_at hl 0 rfl) ?_
      refine r_getP X h (ci := 2) (k := 25) (C := RX2) (T := TX2) (N := 36) rfl in_X2 (by decide) q1084 rfl dX2_on_38 hf (fun i8 hf => ?_)
      refine lv_iload_n X.hx X.hb dX2_on_41 rfl (lv_at hl 1 rfl) ?_
      refine r_iald X h dX2_on_42 hf (fun x9 hf => ?_)
      refine r_put X h (ci := 2) (k := 10) (C := RX2) (T := TX2) (N := 36) (ty0 := tyX2) (ty := .int) (v := .int x9) rfl in_X2 tyX2_ok nmX2 (by decide) q1069 rfl rfl (by decide +kernel) rfl rfl (fun j hj => by cases hj) dX2_on_43 hf (fun μ10 H locs hf h => ?_)
      refine lv_iconst (v := 0) X.hx X.hb dX2_on_46 (by decide) ?_
      refine lv_istore_n (lv' := [(2, .int 0), (0, .ref (ad b0)), (1, .int a1)]) X.hx X.hb dX2_on_47 rfl hl (by decide) rfl (fun ls hl => ?_)
      refine wX2_on_L48 l b0 a1 _ X hr hlk (fun μ18 H locs ls hf h hl => ?_) 10000 _ _ _ _ _ hf h (lv_sub hl [1, 2, 0] rfl)
      refine lv_iconst (v := 0) X.hx X.hb dX2_on_77 (by decide) ?_
      refine lv_istore_n (lv' := [(2, .int 0), (0, .ref (ad b0)), (1, .int a1)]) X.hx X.hb dX2_on_78 rfl hl (by decide) rfl (fun ls hl => ?_)
      refine wX2_on_L79 l b0 a1 _ X hr hlk (fun μ28 H locs ls hf h hl => ?_) 10000 _ _ _ _ _ hf h (lv_sub hl [1, 2, 0] rfl)
      refine lv_aload_n X.hx X.hb dX2_on_114 rfl (lv_at hl 0 rfl) ?_
      refine r_getI X h (ci := 2) (k := 21) (C := RX2) (T := TX2) (N := 36) rfl in_X2 (by decide) q1080 rfl dX2_on_115 hf (fun x29 hf => ?_)
      exact r_ri X h hr hlk (Nat.le_of_ble_eq_true rfl) (Nat.le_of_ble_eq_true rfl) dX2_on_118 hf
    · replace hf := gif_t hf hc
      clear hc
      refine lv_aload_n X.hx X.hb dX2_on_20 rfl (lv_at hl 0 rfl) ?_
      refine lv_iconst (v := 1) X.hx X.hb dX2_on_21 (by decide) ?_
      refine r_cVI (As := [.int 1]) (rest := []) (C := RX2) (T := TX2) (N := 36) X h hf (fun res hres => wX2_meets l Γ ad _ b0 1 res hres) rfl (cwV 1 X.hts (lw_V q1199 q1201 qs38 q84 q1202) rfl rfl rfl (by decide +kernel) ⟨Nat.le_of_ble_eq_true rfl, Nat.le_of_ble_eq_true rfl⟩) rfl ⟨hl.1, Nat.le_of_ble_eq_true rfl, Nat.le_of_ble_eq_true rfl, Nat.le_of_ble_eq_true rfl⟩ rfl dX2_on_22 (fun x30 μ31 H locs hf h => ?_)
      exact r_ri X h hr hlk (Nat.le_of_ble_eq_true rfl) (Nat.le_of_ble_eq_true rfl) dX2_on_25 hf
  · replace hf := gif_t hf hc
    clear hc
    refine lv_iconst (v := (-1)) X.hx X.hb dX2_on_9 (by decide) ?_
    exact r_ri X h hr hlk (Nat.le_of_ble_eq_true rfl) (Nat.le_of_ble_eq_true rfl) dX2_on_10 hf
/-! X2_piano -/
def fX2_piano_L55 (b0 : Nat) (kx74 : gM → gR) : Nat → Int32 → gM → gR
  | 0, _, _ => none
  | n13 + 1, x11, μ12 => if 9 ≤ x11 then (kx74 μ12) else (gis μ12 b0 2 <| cV (fX2_place μ12 b0 0 x11 0) fun μ14 => gnm (x11 + 1) fun x15 => fX2_piano_L55 b0 kx74 n13 x15 μ14)
set_option maxHeartbeats 4000000 in
theorem wX2_piano_L55 {p : Program} {e : Env} {s : State} {m : MethodId} {args : Array Value} {below : List Frame} {meth : Method} {c : Code} {Γ : gG} {A : Nat → Prop} {nz : Nat} {ad : Nat → Nat} {r : Option Value × gM} (l : Launch) (b0 : Nat) (kx74 : gM → gR) (X : gX p m c cX2_piano 3 s args "SandPianoModel" Γ A) (hr : meth.sig.returnType = (some .int)) (hlk : meth.locks = false) (hk74 : ∀  (μ : gM) (H : Heap) (locs : List Loc) (ls : Array Slot), kx74  μ = some r → gWd Γ A nz ad μ s.heap H locs → lv_has ls 3 [(0, .ref (ad b0))] → W p l e ({ frames := 4, cells := 0, slots := 0, locals := 90 } : Room) s m args below meth c H locs 0 0 (MQ below (gQ0 Γ ad nz r A) args s 0 0 A) (F0 m 74 ls [])) : ∀ (n13 : Nat) (x11 : Int32) (μ12 : gM) (H : Heap) (locs : List Loc) (ls : Array Slot), fX2_piano_L55 b0 kx74 n13 x11 μ12 = some r → gWd Γ A nz ad μ12 s.heap H locs → lv_has ls 3 [(0, .ref (ad b0)), (2, .int x11)] → W p l e ({ frames := 4, cells := 0, slots := 0, locals := 90 } : Room) s m args below meth c H locs 0 0 (MQ below (gQ0 Γ ad nz r A) args s 0 0 A) (F0 m 55 ls []) := by
  intro n13
  induction n13 with
  | zero =>
    intro x11 μ12 H locs ls hf h hl
    have hf : (none : gR) = some r := hf
    cases hf
  | succ n13 ih =>
    intro x11 μ12 H locs ls hf h hl
    rw [fX2_piano_L55] at hf
    refine lv_iload_n X.hx X.hb dX2_piano_55 rfl (lv_at hl 1 rfl) ?_
    refine lv_bipush (v := 9) X.hx X.hb dX2_piano_56 (by decide) ?_
    refine lv_icmp_ge (tgt := 74) X.hx X.hb dX2_piano_58 (by decide) (fun hc => ?_) (fun hc => ?_)
    · replace hf := gif_t hf hc
      clear hc
      exact hk74 _ _ _ _ hf h (lv_sub hl [0] rfl)
    · replace hf := gif_f hf hc
      clear hc
      refine lv_aload_n X.hx X.hb dX2_piano_61 rfl (lv_at hl 0 rfl) ?_
      refine lv_iconst (v := 0) X.hx X.hb dX2_piano_62 (by decide) ?_
      refine lv_iload_n X.hx X.hb dX2_piano_63 rfl (lv_at hl 1 rfl) ?_
      refine lv_iconst (v := 0) X.hx X.hb dX2_piano_64 (by decide) ?_
      refine r_cVV (As := [.int 0, .int x11, .int 0]) (rest := []) (C := RX2) (T := TX2) (N := 36) X h hf (fun res hres => wX2_place l Γ ad _ b0 0 x11 0 res hres) rfl (cwV 3 X.hts (lw_V q1273 q1275 qs46 q84 q1276) rfl rfl rfl (by decide +kernel) ⟨Nat.le_of_ble_eq_true rfl, Nat.le_of_ble_eq_true rfl⟩) rfl ⟨hl.1, Nat.le_of_ble_eq_true rfl, Nat.le_of_ble_eq_true rfl, Nat.le_of_ble_eq_true rfl⟩ rfl dX2_piano_65 (fun μ14 H locs hf h => ?_)
      refine r_nmk hf (fun x15 ex hf => ?_)
      refine lv_iinc (v := x15) (lv' := [(2, .int x15), (0, .ref (ad b0))]) X.hx X.hb dX2_piano_68 hl (k := 1) rfl (by rw [ex]; rfl) (by decide) rfl (fun ls hl => ?_)
      clear ex
      refine lv_goto (tgt := 55) X.hx X.hb dX2_piano_71 (by decide) ?_
      exact ih _ _ _ _ _ hf h (lv_sub hl [1, 0] rfl)
def fX2_piano_L76 (b0 : Nat) (kx152 : gM → gR) : Nat → Int32 → gM → gR
  | 0, _, _ => none
  | n19 + 1, x17, μ18 => gI (gfld μ18 b0 2 11) fun x20 => if x20 ≤ x17 then (kx152 μ18) else (gP (gfld μ18 b0 2 12) fun i21 => gP (gfld μ18 b0 2 19) fun i22 => gaI μ18 0 i22 (4 * x17) fun x23 => gsI μ18 0 i21 x17 x23 fun μ24 => gP (gfld μ24 b0 2 13) fun i25 => gP (gfld μ24 b0 2 19) fun i26 => gaI μ24 0 i26 ((4 * x17) + 1) fun x27 => gsI μ24 0 i25 x17 x27 fun μ28 => gP (gfld μ28 b0 2 14) fun i29 => gP (gfld μ28 b0 2 19) fun i30 => gaI μ28 0 i30 ((4 * x17) + 3) fun x31 => gsI μ28 0 i29 x17 x31 fun μ32 => gP (gfld μ32 b0 2 19) fun i33 => gaI μ32 0 i33 ((4 * x17) + 2) fun x34 => gis μ32 b0 2 <| cV (fX2_place μ32 b0 0 x17 x34) fun μ35 => gnm (x17 + 1) fun x36 => fX2_piano_L76 b0 kx152 n19 x36 μ35)
set_option maxHeartbeats 4000000 in
theorem wX2_piano_L76 {p : Program} {e : Env} {s : State} {m : MethodId} {args : Array Value} {below : List Frame} {meth : Method} {c : Code} {Γ : gG} {A : Nat → Prop} {nz : Nat} {ad : Nat → Nat} {r : Option Value × gM} (l : Launch) (b0 : Nat) (kx152 : gM → gR) (X : gX p m c cX2_piano 3 s args "SandPianoModel" Γ A) (hr : meth.sig.returnType = (some .int)) (hlk : meth.locks = false) (hk152 : ∀  (μ : gM) (H : Heap) (locs : List Loc) (ls : Array Slot), kx152  μ = some r → gWd Γ A nz ad μ s.heap H locs → lv_has ls 3 [(0, .ref (ad b0))] → W p l e ({ frames := 4, cells := 0, slots := 0, locals := 90 } : Room) s m args below meth c H locs 0 0 (MQ below (gQ0 Γ ad nz r A) args s 0 0 A) (F0 m 152 ls [])) : ∀ (n19 : Nat) (x17 : Int32) (μ18 : gM) (H : Heap) (locs : List Loc) (ls : Array Slot), fX2_piano_L76 b0 kx152 n19 x17 μ18 = some r → gWd Γ A nz ad μ18 s.heap H locs → lv_has ls 3 [(0, .ref (ad b0)), (2, .int x17)] → W p l e ({ frames := 4, cells := 0, slots := 0, locals := 90 } : Room) s m args below meth c H locs 0 0 (MQ below (gQ0 Γ ad nz r A) args s 0 0 A) (F0 m 76 ls []) := by
  intro n19
  induction n19 with
  | zero =>
    intro x17 μ18 H locs ls hf h hl
    have hf : (none : gR) = some r := hf
    cases hf
  | succ n19 ih =>
    intro x17 μ18 H locs ls hf h hl
    rw [fX2_piano_L76] at hf
    refine lv_iload_n X.hx X.hb dX2_piano_76 rfl (lv_at hl 1 rfl) ?_
    refine lv_aload_n X.hx X.hb dX2_piano_77 rfl (lv_at hl 0 rfl) ?_
    refine r_getI X h (ci := 2) (k := 11) (C := RX2) (T := TX2) (N := 36) rfl in_X2 (by decide) q1070 rfl dX2_piano_78 hf (fun x20 hf => ?_)
    refine lv_icmp_ge (tgt := 152) X.hx X.hb dX2_piano_81 (by decide) (fun hc => ?_) (fun hc => ?_)
    · replace hf := gif_t hf hc
      clear hc
      exact hk152 _ _ _ _ hf h (lv_sub hl [0] rfl)
    · replace hf := gif_f hf hc
      clear hc
      refine lv_aload_n X.hx X.hb dX2_piano_84 rfl (lv_at hl 0 rfl) ?_
      refine r_getP X h (ci := 2) (k := 12) (C := RX2) (T := TX2) (N := 36) rfl in_X2 (by decide) q1071 rfl dX2_piano_85 hf (fun i21 hf => ?_)
      refine lv_iload_n X.hx X.hb dX2_piano_88 rfl (lv_at hl 1 rfl) ?_
      refine lv_aload_n X.hx X.hb dX2_piano_89 rfl (lv_at hl 0 rfl) ?_
      refine r_getP X h (ci := 2) (k := 19) (C := RX2) (T := TX2) (N := 36) rfl in_X2 (by decide) q1078 rfl dX2_piano_90 hf (fun i22 hf => ?_)
      refine lv_iconst (v := 4) X.hx X.hb dX2_piano_93 (by decide) ?_
      refine lv_iload_n X.hx X.hb dX2_piano_94 rfl (lv_at hl 1 rfl) ?_
      refine lv_imul X.hx X.hb dX2_piano_95 ?_
      refine r_iald X h dX2_piano_96 hf (fun x23 hf => ?_)
      refine r_iast X h dX2_piano_97 hf (fun μ24 H locs hf h => ?_)
      refine lv_aload_n X.hx X.hb dX2_piano_98 rfl (lv_at hl 0 rfl) ?_
      refine r_getP X h (ci := 2) (k := 13) (C := RX2) (T := TX2) (N := 36) rfl in_X2 (by decide) q1072 rfl dX2_piano_99 hf (fun i25 hf => ?_)
      refine lv_iload_n X.hx X.hb dX2_piano_102 rfl (lv_at hl 1 rfl) ?_
      refine lv_aload_n X.hx X.hb dX2_piano_103 rfl (lv_at hl 0 rfl) ?_
      refine r_getP X h (ci := 2) (k := 19) (C := RX2) (T := TX2) (N := 36) rfl in_X2 (by decide) q1078 rfl dX2_piano_104 hf (fun i26 hf => ?_)
      refine lv_iconst (v := 4) X.hx X.hb dX2_piano_107 (by decide) ?_
      refine lv_iload_n X.hx X.hb dX2_piano_108 rfl (lv_at hl 1 rfl) ?_
      refine lv_imul X.hx X.hb dX2_piano_109 ?_
      refine lv_iconst (v := 1) X.hx X.hb dX2_piano_110 (by decide) ?_
      refine lv_iadd X.hx X.hb dX2_piano_111 ?_
      refine r_iald X h dX2_piano_112 hf (fun x27 hf => ?_)
      refine r_iast X h dX2_piano_113 hf (fun μ28 H locs hf h => ?_)
      refine lv_aload_n X.hx X.hb dX2_piano_114 rfl (lv_at hl 0 rfl) ?_
      refine r_getP X h (ci := 2) (k := 14) (C := RX2) (T := TX2) (N := 36) rfl in_X2 (by decide) q1073 rfl dX2_piano_115 hf (fun i29 hf => ?_)
      refine lv_iload_n X.hx X.hb dX2_piano_118 rfl (lv_at hl 1 rfl) ?_
      refine lv_aload_n X.hx X.hb dX2_piano_119 rfl (lv_at hl 0 rfl) ?_
      refine r_getP X h (ci := 2) (k := 19) (C := RX2) (T := TX2) (N := 36) rfl in_X2 (by decide) q1078 rfl dX2_piano_120 hf (fun i30 hf => ?_)
      refine lv_iconst (v := 4) X.hx X.hb dX2_piano_123 (by decide) ?_
      refine lv_iload_n X.hx X.hb dX2_piano_124 rfl (lv_at hl 1 rfl) ?_
      refine lv_imul X.hx X.hb dX2_piano_125 ?_
      refine lv_iconst (v := 3) X.hx X.hb dX2_piano_126 (by decide) ?_
      refine lv_iadd X.hx X.hb dX2_piano_127 ?_
      refine r_iald X h dX2_piano_128 hf (fun x31 hf => ?_)
      refine r_iast X h dX2_piano_129 hf (fun μ32 H locs hf h => ?_)
      refine lv_aload_n X.hx X.hb dX2_piano_130 rfl (lv_at hl 0 rfl) ?_
      refine lv_iconst (v := 0) X.hx X.hb dX2_piano_131 (by decide) ?_
      refine lv_iload_n X.hx X.hb dX2_piano_132 rfl (lv_at hl 1 rfl) ?_
      refine lv_aload_n X.hx X.hb dX2_piano_133 rfl (lv_at hl 0 rfl) ?_
      refine r_getP X h (ci := 2) (k := 19) (C := RX2) (T := TX2) (N := 36) rfl in_X2 (by decide) q1078 rfl dX2_piano_134 hf (fun i33 hf => ?_)
      refine lv_iconst (v := 4) X.hx X.hb dX2_piano_137 (by decide) ?_
      refine lv_iload_n X.hx X.hb dX2_piano_138 rfl (lv_at hl 1 rfl) ?_
      refine lv_imul X.hx X.hb dX2_piano_139 ?_
      refine lv_iconst (v := 2) X.hx X.hb dX2_piano_140 (by decide) ?_
      refine lv_iadd X.hx X.hb dX2_piano_141 ?_
      refine r_iald X h dX2_piano_142 hf (fun x34 hf => ?_)
      refine r_cVV (As := [.int 0, .int x17, .int x34]) (rest := []) (C := RX2) (T := TX2) (N := 36) X h hf (fun res hres => wX2_place l Γ ad _ b0 0 x17 x34 res hres) rfl (cwV 3 X.hts (lw_V q1273 q1275 qs46 q84 q1276) rfl rfl rfl (by decide +kernel) ⟨Nat.le_of_ble_eq_true rfl, Nat.le_of_ble_eq_true rfl⟩) rfl ⟨hl.1, Nat.le_of_ble_eq_true rfl, Nat.le_of_ble_eq_true rfl, Nat.le_of_ble_eq_true rfl⟩ rfl dX2_piano_143 (fun μ35 H locs hf h => ?_)
      refine r_nmk hf (fun x36 ex hf => ?_)
      refine lv_iinc (v := x36) (lv' := [(2, .int x36), (0, .ref (ad b0))]) X.hx X.hb dX2_piano_146 hl (k := 1) rfl (by rw [ex]; rfl) (by decide) rfl (fun ls hl => ?_)
      clear ex
      refine lv_goto (tgt := 76) X.hx X.hb dX2_piano_149 (by decide) ?_
      exact ih _ _ _ _ _ hf h (lv_sub hl [1, 0] rfl)
def fX2_piano_L159 (b0 : Nat) (kx177 : gM → gR) : Nat → Int32 → gM → gR
  | 0, _, _ => none
  | n41 + 1, x39, μ40 => if 3 ≤ x39 then (kx177 μ40) else (gP (gfld μ40 b0 2 23) fun i42 => gsI μ40 2 i42 x39 (vp_nar .boolean 0) fun μ43 => gnm (x39 + 1) fun x44 => fX2_piano_L159 b0 kx177 n41 x44 μ43)
set_option maxHeartbeats 4000000 in
theorem wX2_piano_L159 {p : Program} {e : Env} {s : State} {m : MethodId} {args : Array Value} {below : List Frame} {meth : Method} {c : Code} {Γ : gG} {A : Nat → Prop} {nz : Nat} {ad : Nat → Nat} {r : Option Value × gM} (l : Launch) (b0 : Nat) (kx177 : gM → gR) (X : gX p m c cX2_piano 3 s args "SandPianoModel" Γ A) (hr : meth.sig.returnType = (some .int)) (hlk : meth.locks = false) (hk177 : ∀  (μ : gM) (H : Heap) (locs : List Loc) (ls : Array Slot), kx177  μ = some r → gWd Γ A nz ad μ s.heap H locs → lv_has ls 3 [(0, .ref (ad b0))] → W p l e ({ frames := 4, cells := 0, slots := 0, locals := 90 } : Room) s m args below meth c H locs 0 0 (MQ below (gQ0 Γ ad nz r A) args s 0 0 A) (F0 m 177 ls [])) : ∀ (n41 : Nat) (x39 : Int32) (μ40 : gM) (H : Heap) (locs : List Loc) (ls : Array Slot), fX2_piano_L159 b0 kx177 n41 x39 μ40 = some r → gWd Γ A nz ad μ40 s.heap H locs → lv_has ls 3 [(0, .ref (ad b0)), (2, .int x39)] → W p l e ({ frames := 4, cells := 0, slots := 0, locals := 90 } : Room) s m args below meth c H locs 0 0 (MQ below (gQ0 Γ ad nz r A) args s 0 0 A) (F0 m 159 ls []) := by
  intro n41
  induction n41 with
  | zero =>
    intro x39 μ40 H locs ls hf h hl
    have hf : (none : gR) = some r := hf
    cases hf
  | succ n41 ih =>
    intro x39 μ40 H locs ls hf h hl
    rw [fX2_piano_L159] at hf
    refine lv_iload_n X.hx X.hb dX2_piano_159 rfl (lv_at hl 1 rfl) ?_
    refine lv_iconst (v := 3) X.hx X.hb dX2_piano_160 (by decide) ?_
    refine lv_icmp_ge (tgt := 177) X.hx X.hb dX2_piano_161 (by decide) (fun hc => ?_) (fun hc => ?_)
    · replace hf := gif_t hf hc
      clear hc
      exact hk177 _ _ _ _ hf h (lv_sub hl [0] rfl)
    · replace hf := gif_f hf hc
      clear hc
      refine lv_aload_n X.hx X.hb dX2_piano_164 rfl (lv_at hl 0 rfl) ?_
      refine r_getP X h (ci := 2) (k := 23) (C := RX2) (T := TX2) (N := 36) rfl in_X2 (by decide) q1082 rfl dX2_piano_165 hf (fun i42 hf => ?_)
      refine lv_iload_n X.hx X.hb dX2_piano_168 rfl (lv_at hl 1 rfl) ?_
      refine lv_iconst (v := 0) X.hx X.hb dX2_piano_169 (by decide) ?_
      refine r_zast X h dX2_piano_170 hf (fun μ43 H locs hf h => ?_)
      refine r_nmk hf (fun x44 ex hf => ?_)
      refine lv_iinc (v := x44) (lv' := [(2, .int x44), (0, .ref (ad b0))]) X.hx X.hb dX2_piano_171 hl (k := 1) rfl (by rw [ex]; rfl) (by decide) rfl (fun ls hl => ?_)
      clear ex
      refine lv_goto (tgt := 159) X.hx X.hb dX2_piano_174 (by decide) ?_
      exact ih _ _ _ _ _ hf h (lv_sub hl [1, 0] rfl)
def fX2_piano (μ0 : gM) (b0 : Nat) (a1 : Int32) : gR := cI (fX2_isText μ0 a1) fun x1 μ2 => if x1 = 0 then (some (some (.int (-1)), μ2)) else (gP (gfld μ2 b0 2 8) fun i3 => gaI μ2 0 i3 a1 fun x4 => if 0 ≤ x4 then (gis μ2 b0 2 <| cI (fX2_faultOf μ2 b0 a1) fun x5 μ6 => if x5 = (-9) then (gI (gfld μ6 b0 2 17) fun x7 => gpf μ6 b0 2 10 (.int x7) fun μ8 => gI (gfld μ8 b0 2 18) fun x9 => gpf μ8 b0 2 11 (.int x9) fun μ10 => fX2_piano_L55 b0 (fun (μ16 : gM) => fX2_piano_L76 b0 (fun (μ37 : gM) => gpf μ37 b0 2 21 (.int 0) fun μ38 => fX2_piano_L159 b0 (fun (μ45 : gM) => gI (gfld μ45 b0 2 11) fun x46 => some (some (.int x46), μ45)) 10000 0 μ38) 10000 0 μ16) 10000 0 μ10) else (some (some (.int (-4)), μ6))) else (gis μ2 b0 2 <| cI (fX2_meets μ2 b0 1) fun x47 μ48 => some (some (.int x47), μ48)))
set_option maxHeartbeats 4000000 in
theorem wX2_piano (l : Launch) (Γ : gG) (ad : Nat → Nat) (μ0 : gM) (b0 : Nat) (a1 : Int32) (r : Option Value × gM) (hf : fX2_piano μ0 b0 a1 = some r) : gMt0 l Γ yX2_piano (ws_ yX2_piano cX2_piano 3 (some .int)) ({ frames := 4, cells := 0, slots := 0, locals := 90 } : Room) 0 0 ad μ0 [.ref (ad b0), .int a1] r := by
  intro sz
  refine g_start (maxL := 3) (ret := (some .int)) (by decide) rfl g_all (Nat.le_of_ble_eq_true rfl) ?_
  intro p e s m below meth c ls hr hlk hnm X h hl
  generalize gA ad μ0 sz = A at X h ⊢
  generalize ([.ref (ad b0), .int a1] : List Value).toArray = args at X ⊢
  have X : gX p m c cX2_piano 3 s args "SandPianoModel" Γ A := X
  have hl : lv_has ls 3 [(0, .ref (ad b0)), (1, .int a1)] := hl
  show W p l e ({ frames := 4, cells := 0, slots := 0, locals := 90 } : Room) s m args below meth c s.heap [] 0 0 (MQ below (gQ0 Γ ad μ0.1 r A) args s 0 0 A) (F0 m 0 ls [])
  unfold fX2_piano at hf
  refine lv_iload_n X.hx X.hb dX2_piano_0 rfl (lv_at hl 1 rfl) ?_
  refine r_cSI (As := [.int a1]) (rest := []) X h hf (fun res hres => wX2_isText l Γ ad _ a1 res hres) (va_cwS 1 X.hts (lw_S q1235 q1236 q84 q1237) rfl rfl rfl (by decide +kernel) ⟨Nat.le_of_ble_eq_true rfl, Nat.le_of_ble_eq_true rfl⟩) rfl ⟨hl.1, Nat.le_of_ble_eq_true rfl, Nat.le_of_ble_eq_true rfl, Nat.le_of_ble_eq_true rfl⟩ rfl dX2_piano_1 (fun x1 μ2 H locs hf h => ?_)
  refine lv_if_ne (tgt := 9) X.hx X.hb dX2_piano_4 (by decide) (fun hc => ?_) (fun hc => ?_)
  · replace hf := gif_f hf hc
    clear hc
    refine lv_aload_n X.hx X.hb dX2_piano_9 rfl (lv_at hl 0 rfl) ?_
    refine r_getP X h (ci := 2) (k := 8) (C := RX2) (T := TX2) (N := 36) rfl in_X2 (by decide) q1067 rfl dX2_piano_10 hf (fun i3 hf => ?_)
    refine lv_iload_n X.hx X.hb dX2_piano_13 rfl (lv_at hl 1 rfl) ?_
    refine r_iald X h dX2_piano_14 hf (fun x4 hf => ?_)
    refine lv_if_ge (tgt := 24) X.hx X.hb dX2_piano_15 (by decide) (fun hc => ?_) (fun hc => ?_)
    · replace hf := gif_t hf hc
      clear hc
      refine lv_aload_n X.hx X.hb dX2_piano_24 rfl (lv_at hl 0 rfl) ?_
      refine lv_iload_n X.hx X.hb dX2_piano_25 rfl (lv_at hl 1 rfl) ?_
      refine r_cVI (As := [.int a1]) (rest := []) (C := RX2) (T := TX2) (N := 36) X h hf (fun res hres => wX2_faultOf l Γ ad _ b0 a1 res hres) rfl (cwV 1 X.hts (lw_V q1246 q1248 qs41 q84 q1249) rfl rfl rfl (by decide +kernel) ⟨Nat.le_of_ble_eq_true rfl, Nat.le_of_ble_eq_true rfl⟩) rfl ⟨hl.1, Nat.le_of_ble_eq_true rfl, Nat.le_of_ble_eq_true rfl, Nat.le_of_ble_eq_true rfl⟩ rfl dX2_piano_26 (fun x5 μ6 H locs hf h => ?_)
      refine lv_bipush (v := (-9)) X.hx X.hb dX2_piano_29 (by decide) ?_
      refine lv_icmp_eq (tgt := 37) X.hx X.hb dX2_piano_31 (by decide) (fun hc => ?_) (fun hc => ?_)
      · replace hf := gif_t hf hc
        clear hc
        refine lv_aload_n X.hx X.hb dX2_piano_37 rfl (lv_at hl 0 rfl) ?_
        refine lv_aload_n X.hx X.hb dX2_piano_38 rfl (lv_at hl 0 rfl) ?_
        refine r_getI X h (ci := 2) (k := 17) (C := RX2) (T := TX2) (N := 36) rfl in_X2 (by decide) q1076 rfl dX2_piano_39 hf (fun x7 hf => ?_)
        refine r_put X h (ci := 2) (k := 10) (C := RX2) (T := TX2) (N := 36) (ty0 := tyX2) (ty := .int) (v := .int x7) rfl in_X2 tyX2_ok nmX2 (by decide) q1069 rfl rfl (by decide +kernel) rfl rfl (fun j hj => by cases hj) dX2_piano_42 hf (fun μ8 H locs hf h => ?_)
        refine lv_aload_n X.hx X.hb dX2_piano_45 rfl (lv_at hl 0 rfl) ?_
        refine lv_aload_n X.hx X.hb dX2_piano_46 rfl (lv_at hl 0 rfl) ?_
        refine r_getI X h (ci := 2) (k := 18) (C := RX2) (T := TX2) (N := 36) rfl in_X2 (by decide) q1077 rfl dX2_piano_47 hf (fun x9 hf => ?_)
        refine r_put X h (ci := 2) (k := 11) (C := RX2) (T := TX2) (N := 36) (ty0 := tyX2) (ty := .int) (v := .int x9) rfl in_X2 tyX2_ok nmX2 (by decide) q1070 rfl rfl (by decide +kernel) rfl rfl (fun j hj => by cases hj) dX2_piano_50 hf (fun μ10 H locs hf h => ?_)
        refine lv_iconst (v := 0) X.hx X.hb dX2_piano_53 (by decide) ?_
        refine lv_istore_n (lv' := [(2, .int 0), (0, .ref (ad b0)), (1, .int a1)]) X.hx X.hb dX2_piano_54 rfl hl (by decide) rfl (fun ls hl => ?_)
        refine wX2_piano_L55 l b0 _ X hr hlk (fun μ16 H locs ls hf h hl => ?_) 10000 _ _ _ _ _ hf h (lv_sub hl [1, 0] rfl)
        refine lv_iconst (v := 0) X.hx X.hb dX2_piano_74 (by decide) ?_
        refine lv_istore_n (lv' := [(2, .int 0), (0, .ref (ad b0))]) X.hx X.hb dX2_piano_75 rfl hl (by decide) rfl (fun ls hl => ?_)
        refine wX2_piano_L76 l b0 _ X hr hlk (fun μ37 H locs ls hf h hl => ?_) 10000 _ _ _ _ _ hf h (lv_sub hl [1, 0] rfl)
        refine lv_aload_n X.hx X.hb dX2_piano_152 rfl (lv_at hl 0 rfl) ?_
        refine lv_iconst (v := 0) X.hx X.hb dX2_piano_153 (by decide) ?_
        refine r_put X h (ci := 2) (k := 21) (C := RX2) (T := TX2) (N := 36) (ty0 := tyX2) (ty := .int) (v := .int 0) rfl in_X2 tyX2_ok nmX2 (by decide) q1080 rfl rfl (by decide +kernel) rfl rfl (fun j hj => by cases hj) dX2_piano_154 hf (fun μ38 H locs hf h => ?_)
        refine lv_iconst (v := 0) X.hx X.hb dX2_piano_157 (by decide) ?_
        refine lv_istore_n (lv' := [(2, .int 0), (0, .ref (ad b0))]) X.hx X.hb dX2_piano_158 rfl hl (by decide) rfl (fun ls hl => ?_)
        refine wX2_piano_L159 l b0 _ X hr hlk (fun μ45 H locs ls hf h hl => ?_) 10000 _ _ _ _ _ hf h (lv_sub hl [1, 0] rfl)
        refine lv_aload_n X.hx X.hb dX2_piano_177 rfl (lv_at hl 0 rfl) ?_
        refine r_getI X h (ci := 2) (k := 11) (C := RX2) (T := TX2) (N := 36) rfl in_X2 (by decide) q1070 rfl dX2_piano_178 hf (fun x46 hf => ?_)
        exact r_ri X h hr hlk (Nat.le_of_ble_eq_true rfl) (Nat.le_of_ble_eq_true rfl) dX2_piano_181 hf
      · replace hf := gif_f hf hc
        clear hc
        refine lv_bipush (v := (-4)) X.hx X.hb dX2_piano_34 (by decide) ?_
        exact r_ri X h hr hlk (Nat.le_of_ble_eq_true rfl) (Nat.le_of_ble_eq_true rfl) dX2_piano_36 hf
    · replace hf := gif_f hf hc
      clear hc
      refine lv_aload_n X.hx X.hb dX2_piano_18 rfl (lv_at hl 0 rfl) ?_
      refine lv_iconst (v := 1) X.hx X.hb dX2_piano_19 (by decide) ?_
      refine r_cVI (As := [.int 1]) (rest := []) (C := RX2) (T := TX2) (N := 36) X h hf (fun res hres => wX2_meets l Γ ad _ b0 1 res hres) rfl (cwV 1 X.hts (lw_V q1199 q1201 qs38 q84 q1202) rfl rfl rfl (by decide +kernel) ⟨Nat.le_of_ble_eq_true rfl, Nat.le_of_ble_eq_true rfl⟩) rfl ⟨hl.1, Nat.le_of_ble_eq_true rfl, Nat.le_of_ble_eq_true rfl, Nat.le_of_ble_eq_true rfl⟩ rfl dX2_piano_20 (fun x47 μ48 H locs hf h => ?_)
      exact r_ri X h hr hlk (Nat.le_of_ble_eq_true rfl) (Nat.le_of_ble_eq_true rfl) dX2_piano_23 hf
  · replace hf := gif_t hf hc
    clear hc
    refine lv_iconst (v := (-1)) X.hx X.hb dX2_piano_7 (by decide) ?_
    exact r_ri X h hr hlk (Nat.le_of_ble_eq_true rfl) (Nat.le_of_ble_eq_true rfl) dX2_piano_8 hf
/-! X2_play -/
def fX2_play (μ0 : gM) (b0 : Nat) (a1 : Int32) : gR := gis μ0 b0 2 <| cI (fX2_isKey μ0 b0 a1) fun x1 μ2 => if x1 = 0 then (some (some (.int (-1)), μ2)) else (gis μ2 b0 2 <| cI (fX2_canPlay μ2 b0 0 a1) fun x3 μ4 => if x3 = 0 then (some (some (.int (-4)), μ4)) else (gI (gfld μ4 b0 2 21) fun x5 => if x5 = 60 then (some (some (.int (-2)), μ4)) else (gis μ4 b0 2 <| cV (fX2_remember μ4 b0) fun μ6 => gis μ6 b0 2 <| cV (fX2_plays μ6 b0 0 a1) fun μ7 => gP (gfld μ7 b0 2 14) fun i8 => gaI μ7 0 i8 a1 fun x9 => some (some (.int x9), μ7))))
set_option maxHeartbeats 4000000 in
theorem wX2_play (l : Launch) (Γ : gG) (ad : Nat → Nat) (μ0 : gM) (b0 : Nat) (a1 : Int32) (r : Option Value × gM) (hf : fX2_play μ0 b0 a1 = some r) : gMt0 l Γ yX2_play (ws_ yX2_play cX2_play 2 (some .int)) ({ frames := 3, cells := 0, slots := 0, locals := 70 } : Room) 0 0 ad μ0 [.ref (ad b0), .int a1] r := by
  intro sz
  refine g_start (maxL := 2) (ret := (some .int)) (by decide) rfl g_all (Nat.le_of_ble_eq_true rfl) ?_
  intro p e s m below meth c ls hr hlk hnm X h hl
  generalize gA ad μ0 sz = A at X h ⊢
  generalize ([.ref (ad b0), .int a1] : List Value).toArray = args at X ⊢
  have X : gX p m c cX2_play 2 s args "SandPianoModel" Γ A := X
  have hl : lv_has ls 2 [(0, .ref (ad b0)), (1, .int a1)] := hl
  show W p l e ({ frames := 3, cells := 0, slots := 0, locals := 70 } : Room) s m args below meth c s.heap [] 0 0 (MQ below (gQ0 Γ ad μ0.1 r A) args s 0 0 A) (F0 m 0 ls [])
  unfold fX2_play at hf
  refine lv_aload_n X.hx X.hb dX2_play_0 rfl (lv_at hl 0 rfl) ?_
  refine lv_iload_n X.hx X.hb dX2_play_1 rfl (lv_at hl 1 rfl) ?_
  refine r_cVI (As := [.int a1]) (rest := []) (C := RX2) (T := TX2) (N := 36) X h hf (fun res hres => wX2_isKey l Γ ad _ b0 a1 res hres) rfl (cwV 1 X.hts (lw_V q1281 q1283 qs47 q84 q1284) rfl rfl rfl (by decide +kernel) ⟨Nat.le_of_ble_eq_true rfl, Nat.le_of_ble_eq_true rfl⟩) rfl ⟨hl.1, Nat.le_of_ble_eq_true rfl, Nat.le_of_ble_eq_true rfl, Nat.le_of_ble_eq_true rfl⟩ rfl dX2_play_2 (fun x1 μ2 H locs hf h => ?_)
  refine lv_if_ne (tgt := 10) X.hx X.hb dX2_play_5 (by decide) (fun hc => ?_) (fun hc => ?_)
  · replace hf := gif_f hf hc
    clear hc
    refine lv_aload_n X.hx X.hb dX2_play_10 rfl (lv_at hl 0 rfl) ?_
    refine lv_iconst (v := 0) X.hx X.hb dX2_play_11 (by decide) ?_
    refine lv_iload_n X.hx X.hb dX2_play_12 rfl (lv_at hl 1 rfl) ?_
    refine r_cVI (As := [.int 0, .int a1]) (rest := []) (C := RX2) (T := TX2) (N := 36) X h hf (fun res hres => wX2_canPlay l Γ ad _ b0 0 a1 res hres) rfl (cwV 2 X.hts (lw_V q1293 q1295 qs50 q84 q1296) rfl rfl rfl (by decide +kernel) ⟨Nat.le_of_ble_eq_true rfl, Nat.le_of_ble_eq_true rfl⟩) rfl ⟨hl.1, Nat.le_of_ble_eq_true rfl, Nat.le_of_ble_eq_true rfl, Nat.le_of_ble_eq_true rfl⟩ rfl dX2_play_13 (fun x3 μ4 H locs hf h => ?_)
    refine lv_if_ne (tgt := 22) X.hx X.hb dX2_play_16 (by decide) (fun hc => ?_) (fun hc => ?_)
    · replace hf := gif_f hf hc
      clear hc
      refine lv_aload_n X.hx X.hb dX2_play_22 rfl (lv_at hl 0 rfl) ?_
      refine r_getI X h (ci := 2) (k := 21) (C := RX2) (T := TX2) (N := 36) rfl in_X2 (by decide) q1080 rfl dX2_play_23 hf (fun x5 hf => ?_)
      refine lv_bipush (v := 60) X.hx X.hb dX2_play_26 (by decide) ?_
      refine lv_icmp_ne (tgt := 34) X.hx X.hb dX2_play_28 (by decide) (fun hc => ?_) (fun hc => ?_)
      · replace hf := gif_f hf hc
        clear hc
        refine lv_aload_n X.hx X.hb dX2_play_34 rfl (lv_at hl 0 rfl) ?_
        refine r_cVV (As := []) (rest := []) (C := RX2) (T := TX2) (N := 36) X h hf (fun res hres => wX2_remember l Γ ad _ b0 res hres) rfl (cwV 0 X.hts (lw_V q1326 q1328 qs53 q84 q1329) rfl rfl rfl (by decide +kernel) ⟨Nat.le_of_ble_eq_true rfl, Nat.le_of_ble_eq_true rfl⟩) rfl ⟨hl.1, Nat.le_of_ble_eq_true rfl, Nat.le_of_ble_eq_true rfl, Nat.le_of_ble_eq_true rfl⟩ rfl dX2_play_35 (fun μ6 H locs hf h => ?_)
        refine lv_aload_n X.hx X.hb dX2_play_38 rfl (lv_at hl 0 rfl) ?_
        refine lv_iconst (v := 0) X.hx X.hb dX2_play_39 (by decide) ?_
        refine lv_iload_n X.hx X.hb dX2_play_40 rfl (lv_at hl 1 rfl) ?_
        refine r_cVV (As := [.int 0, .int a1]) (rest := []) (C := RX2) (T := TX2) (N := 36) X h hf (fun res hres => wX2_plays l Γ ad _ b0 0 a1 res hres) rfl (cwV 2 X.hts (lw_V q1330 q1332 qs54 q84 q1333) rfl rfl rfl (by decide +kernel) ⟨Nat.le_of_ble_eq_true rfl, Nat.le_of_ble_eq_true rfl⟩) rfl ⟨hl.1, Nat.le_of_ble_eq_true rfl, Nat.le_of_ble_eq_true rfl, Nat.le_of_ble_eq_true rfl⟩ rfl dX2_play_41 (fun μ7 H locs hf h => ?_)
        refine lv_aload_n X.hx X.hb dX2_play_44 rfl (lv_at hl 0 rfl) ?_
        refine r_getP X h (ci := 2) (k := 14) (C := RX2) (T := TX2) (N := 36) rfl in_X2 (by decide) q1073 rfl dX2_play_45 hf (fun i8 hf => ?_)
        refine lv_iload_n X.hx X.hb dX2_play_48 rfl (lv_at hl 1 rfl) ?_
        refine r_iald X h dX2_play_49 hf (fun x9 hf => ?_)
        exact r_ri X h hr hlk (Nat.le_of_ble_eq_true rfl) (Nat.le_of_ble_eq_true rfl) dX2_play_50 hf
      · replace hf := gif_t hf hc
        clear hc
        refine lv_bipush (v := (-2)) X.hx X.hb dX2_play_31 (by decide) ?_
        exact r_ri X h hr hlk (Nat.le_of_ble_eq_true rfl) (Nat.le_of_ble_eq_true rfl) dX2_play_33 hf
    · replace hf := gif_t hf hc
      clear hc
      refine lv_bipush (v := (-4)) X.hx X.hb dX2_play_19 (by decide) ?_
      exact r_ri X h hr hlk (Nat.le_of_ble_eq_true rfl) (Nat.le_of_ble_eq_true rfl) dX2_play_21 hf
  · replace hf := gif_t hf hc
    clear hc
    refine lv_iconst (v := (-1)) X.hx X.hb dX2_play_8 (by decide) ?_
    exact r_ri X h hr hlk (Nat.le_of_ble_eq_true rfl) (Nat.le_of_ble_eq_true rfl) dX2_play_9 hf
