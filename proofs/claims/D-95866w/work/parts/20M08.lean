set_option maxRecDepth 100000
/-! X2_meetSand -/
def fX2_meetSand_L22 (b0 : Nat) (a1 : Int32) (x2 : Int32) (kx71 : Int32 → gM → gR) : Nat → Int32 → Int32 → gM → gR
  | 0, _, _, _ => none
  | n9 + 1, x6, x7, μ8 => gI (gfld μ8 b0 2 11) fun x10 => if x10 ≤ x7 then (kx71 x6 μ8) else (gjn (fun (x11 : Int32) (μ12 : gM) => gnm (x7 + 1) fun x14 => fX2_meetSand_L22 b0 a1 x2 kx71 n9 x11 x14 μ12) fun j13 => gjn (fun  (μ15 : gM) => j13 0 μ15) fun j16 => if x6 = 0 then (j16 μ8) else (gP (gfld μ8 b0 2 34) fun i17 => gaI μ8 0 i17 ((6 * x2) + x7) fun x18 => gis μ8 b0 2 <| cI (fX2_v μ8 b0 a1 x7) fun x19 μ20 => if x18 = x19 then (j13 1 μ20) else (j16 μ20)))
set_option maxHeartbeats 4000000 in
theorem wX2_meetSand_L22 {p : Program} {e : Env} {s : State} {m : MethodId} {args : Array Value} {below : List Frame} {meth : Method} {c : Code} {Γ : gG} {A : Nat → Prop} {nz : Nat} {ad : Nat → Nat} {r : Option Value × gM} (l : Launch) (b0 : Nat) (a1 : Int32) (x2 : Int32) (kx71 : Int32 → gM → gR) (X : gX p m c cX2_meetSand 6 s args "SandPianoModel" Γ A) (hr : meth.sig.returnType = none) (hlk : meth.locks = false) (hk71 : ∀ (x21 : Int32) (μ : gM) (H : Heap) (locs : List Loc) (ls : Array Slot), kx71 x21 μ = some r → gWd Γ A nz ad μ s.heap H locs → lv_has ls 6 [(0, .ref (ad b0)), (1, .int a1), (3, .int x2), (4, .int x21)] → W p l e ({ frames := 1, cells := 0, slots := 0, locals := 22 } : Room) s m args below meth c H locs 0 0 (MQ below (gQ0 Γ ad nz r A) args s 0 0 A) (F0 m 71 ls [])) : ∀ (n9 : Nat) (x6 : Int32) (x7 : Int32) (μ8 : gM) (H : Heap) (locs : List Loc) (ls : Array Slot), fX2_meetSand_L22 b0 a1 x2 kx71 n9 x6 x7 μ8 = some r → gWd Γ A nz ad μ8 s.heap H locs → lv_has ls 6 [(0, .ref (ad b0)), (1, .int a1), (3, .int x2), (4, .int x6), (5, .int x7)] → W p l e ({ frames := 1, cells := 0, slots := 0, locals := 22 } : Room) s m args below meth c H locs 0 0 (MQ below (gQ0 Γ ad nz r A) args s 0 0 A) (F0 m 22 ls []) := by
  intro n9
  induction n9 with
  | zero =>
    intro x6 x7 μ8 H locs ls hf h hl
    have hf : (none : gR) = some r := hf
    cases hf
  | succ n9 ih =>
    intro x6 x7 μ8 H locs ls hf h hl
    rw [fX2_meetSand_L22] at hf
    refine lv_iload X.hx X.hb dX2_meetSand_22 (lv_at hl 4 rfl) ?_
    refine lv_aload_n X.hx X.hb dX2_meetSand_24 rfl (lv_at hl 0 rfl) ?_
    refine r_getI X h (ci := 2) (k := 11) (C := RX2) (T := TX2) (N := 36) rfl in_X2 (by decide) q1070 rfl dX2_meetSand_25 hf (fun x10 hf => ?_)
    refine lv_icmp_ge (tgt := 71) X.hx X.hb dX2_meetSand_28 (by decide) (fun hc => ?_) (fun hc => ?_)
    · replace hf := gif_t hf hc
      clear hc
      exact hk71 _ _ _ _ _ hf h (lv_sub hl [0, 1, 2, 3] rfl)
    · replace hf := gif_f hf hc
      clear hc
      refine lv_iload X.hx X.hb dX2_meetSand_31 (lv_at hl 3 rfl) ?_
      refine r_jn hf (fun j13 ej13 hf => ?_)
      have hj13 : ∀ (x11 : Int32) (μ12 : gM) (H : Heap) (locs : List Loc) (ls : Array Slot), j13 x11 μ12 = some r → gWd Γ A nz ad μ12 s.heap H locs → lv_has ls 6 [(0, .ref (ad b0)), (1, .int a1), (3, .int x2), (5, .int x7)] → W p l e ({ frames := 1, cells := 0, slots := 0, locals := 22 } : Room) s m args below meth c H locs 0 0 (MQ below (gQ0 Γ ad nz r A) args s 0 0 A) (F0 m 63 ls [.int x11]) := by
        intro x11 μ12 H locs ls hf h hl
        rw [ej13] at hf
        refine lv_istore (lv' := [(4, .int x11), (0, .ref (ad b0)), (1, .int a1), (3, .int x2), (5, .int x7)]) X.hx X.hb dX2_meetSand_63 hl (by decide) rfl (fun ls hl => ?_)
        refine r_nmk hf (fun x14 ex hf => ?_)
        refine lv_iinc (v := x14) (lv' := [(5, .int x14), (4, .int x11), (0, .ref (ad b0)), (1, .int a1), (3, .int x2)]) X.hx X.hb dX2_meetSand_65 hl (k := 4) rfl (by rw [ex]; rfl) (by decide) rfl (fun ls hl => ?_)
        clear ex
        refine lv_goto (tgt := 22) X.hx X.hb dX2_meetSand_68 (by decide) ?_
        exact ih _ _ _ _ _ _ hf h (lv_sub hl [2, 3, 4, 1, 0] rfl)
      clear ej13
      refine r_jn hf (fun j16 ej16 hf => ?_)
      have hj16 : ∀  (μ15 : gM) (H : Heap) (locs : List Loc) (ls : Array Slot), j16  μ15 = some r → gWd Γ A nz ad μ15 s.heap H locs → lv_has ls 6 [(0, .ref (ad b0)), (1, .int a1), (3, .int x2), (5, .int x7)] → W p l e ({ frames := 1, cells := 0, slots := 0, locals := 22 } : Room) s m args below meth c H locs 0 0 (MQ below (gQ0 Γ ad nz r A) args s 0 0 A) (F0 m 62 ls []) := by
        intro μ15 H locs ls hf h hl
        rw [ej16] at hf
        refine lv_iconst (v := 0) X.hx X.hb dX2_meetSand_62 (by decide) ?_
        exact hj13 _ _ _ _ _ hf h (lv_sub hl [0, 1, 2, 3] rfl)
      clear ej16
      refine lv_if_eq (tgt := 62) X.hx X.hb dX2_meetSand_33 (by decide) (fun hc => ?_) (fun hc => ?_)
      · replace hf := gif_t hf hc
        clear hc
        exact hj16 _ _ _ _ hf h (lv_sub hl [0, 1, 2, 4] rfl)
      · replace hf := gif_f hf hc
        clear hc
        refine lv_aload_n X.hx X.hb dX2_meetSand_36 rfl (lv_at hl 0 rfl) ?_
        refine r_getP X h (ci := 2) (k := 34) (C := RX2) (T := TX2) (N := 36) rfl in_X2 (by decide) q1093 rfl dX2_meetSand_37 hf (fun i17 hf => ?_)
        refine lv_bipush (v := 6) X.hx X.hb dX2_meetSand_40 (by decide) ?_
        refine lv_iload_n X.hx X.hb dX2_meetSand_42 rfl (lv_at hl 2 rfl) ?_
        refine lv_imul X.hx X.hb dX2_meetSand_43 ?_
        refine lv_iload X.hx X.hb dX2_meetSand_44 (lv_at hl 4 rfl) ?_
        refine lv_iadd X.hx X.hb dX2_meetSand_46 ?_
        refine r_iald X h dX2_meetSand_47 hf (fun x18 hf => ?_)
        refine lv_aload_n X.hx X.hb dX2_meetSand_48 rfl (lv_at hl 0 rfl) ?_
        refine lv_iload_n X.hx X.hb dX2_meetSand_49 rfl (lv_at hl 1 rfl) ?_
        refine lv_iload X.hx X.hb dX2_meetSand_50 (lv_at hl 4 rfl) ?_
        refine r_cVI (As := [.int a1, .int x7]) (rest := [.int x18]) (C := RX2) (T := TX2) (N := 36) X h hf (fun res hres => wX2_v l Γ ad _ b0 a1 x7 res hres) rfl (cwV 2 X.hts (lw_V q1289 q1291 qs49 q84 q1292) rfl rfl rfl (by decide +kernel) ⟨Nat.le_of_ble_eq_true rfl, Nat.le_of_ble_eq_true rfl⟩) rfl ⟨hl.1, Nat.le_of_ble_eq_true rfl, Nat.le_of_ble_eq_true rfl, Nat.le_of_ble_eq_true rfl⟩ rfl dX2_meetSand_52 (fun x19 μ20 H locs hf h => ?_)
        refine lv_icmp_ne (tgt := 62) X.hx X.hb dX2_meetSand_55 (by decide) (fun hc => ?_) (fun hc => ?_)
        · replace hf := gif_f hf hc
          clear hc
          exact hj16 _ _ _ _ hf h (lv_sub hl [0, 1, 2, 4] rfl)
        · replace hf := gif_t hf hc
          clear hc
          refine lv_iconst (v := 1) X.hx X.hb dX2_meetSand_58 (by decide) ?_
          refine lv_goto (tgt := 63) X.hx X.hb dX2_meetSand_59 (by decide) ?_
          exact hj13 _ _ _ _ _ hf h (lv_sub hl [0, 1, 2, 4] rfl)
def fX2_meetSand_L4 (b0 : Nat) (a1 : Int32) (kx88 : Int32 → gM → gR) : Nat → Int32 → Int32 → gM → gR
  | 0, _, _, _ => none
  | n4 + 1, x1, x2, μ3 => gI (gfld μ3 b0 2 33) fun x5 => if x5 ≤ x2 then (kx88 x1 μ3) else (if x1 = 0 then (kx88 x1 μ3) else (fX2_meetSand_L22 b0 a1 x2 (fun (x22 : Int32) (μ23 : gM) => gjn (fun (x24 : Int32) (μ25 : gM) => gnm (x2 + 1) fun x27 => fX2_meetSand_L4 b0 a1 kx88 n4 x24 x27 μ25) fun j26 => if x22 = 0 then (j26 1 μ23) else (j26 0 μ23)) 10000 1 0 μ3))
set_option maxHeartbeats 4000000 in
theorem wX2_meetSand_L4 {p : Program} {e : Env} {s : State} {m : MethodId} {args : Array Value} {below : List Frame} {meth : Method} {c : Code} {Γ : gG} {A : Nat → Prop} {nz : Nat} {ad : Nat → Nat} {r : Option Value × gM} (l : Launch) (b0 : Nat) (a1 : Int32) (kx88 : Int32 → gM → gR) (X : gX p m c cX2_meetSand 6 s args "SandPianoModel" Γ A) (hr : meth.sig.returnType = none) (hlk : meth.locks = false) (hk88 : ∀ (x28 : Int32) (μ : gM) (H : Heap) (locs : List Loc) (ls : Array Slot), kx88 x28 μ = some r → gWd Γ A nz ad μ s.heap H locs → lv_has ls 6 [(0, .ref (ad b0)), (1, .int a1), (2, .int x28)] → W p l e ({ frames := 1, cells := 0, slots := 0, locals := 22 } : Room) s m args below meth c H locs 0 0 (MQ below (gQ0 Γ ad nz r A) args s 0 0 A) (F0 m 88 ls [])) : ∀ (n4 : Nat) (x1 : Int32) (x2 : Int32) (μ3 : gM) (H : Heap) (locs : List Loc) (ls : Array Slot), fX2_meetSand_L4 b0 a1 kx88 n4 x1 x2 μ3 = some r → gWd Γ A nz ad μ3 s.heap H locs → lv_has ls 6 [(0, .ref (ad b0)), (1, .int a1), (2, .int x1), (3, .int x2)] → W p l e ({ frames := 1, cells := 0, slots := 0, locals := 22 } : Room) s m args below meth c H locs 0 0 (MQ below (gQ0 Γ ad nz r A) args s 0 0 A) (F0 m 4 ls []) := by
  intro n4
  induction n4 with
  | zero =>
    intro x1 x2 μ3 H locs ls hf h hl
    have hf : (none : gR) = some r := hf
    cases hf
  | succ n4 ih =>
    intro x1 x2 μ3 H locs ls hf h hl
    rw [fX2_meetSand_L4] at hf
    refine lv_iload_n X.hx X.hb dX2_meetSand_4 rfl (lv_at hl 3 rfl) ?_
    refine lv_aload_n X.hx X.hb dX2_meetSand_5 rfl (lv_at hl 0 rfl) ?_
    refine r_getI X h (ci := 2) (k := 33) (C := RX2) (T := TX2) (N := 36) rfl in_X2 (by decide) q1092 rfl dX2_meetSand_6 hf (fun x5 hf => ?_)
    refine lv_icmp_ge (tgt := 88) X.hx X.hb dX2_meetSand_9 (by decide) (fun hc => ?_) (fun hc => ?_)
    · replace hf := gif_t hf hc
      clear hc
      exact hk88 _ _ _ _ _ hf h (lv_sub hl [0, 1, 2] rfl)
    · replace hf := gif_f hf hc
      clear hc
      refine lv_iload_n X.hx X.hb dX2_meetSand_12 rfl (lv_at hl 2 rfl) ?_
      refine lv_if_eq (tgt := 88) X.hx X.hb dX2_meetSand_13 (by decide) (fun hc => ?_) (fun hc => ?_)
      · replace hf := gif_t hf hc
        clear hc
        exact hk88 _ _ _ _ _ hf h (lv_sub hl [0, 1, 2] rfl)
      · replace hf := gif_f hf hc
        clear hc
        refine lv_iconst (v := 1) X.hx X.hb dX2_meetSand_16 (by decide) ?_
        refine lv_istore (lv' := [(4, .int 1), (0, .ref (ad b0)), (1, .int a1), (2, .int x1), (3, .int x2)]) X.hx X.hb dX2_meetSand_17 hl (by decide) rfl (fun ls hl => ?_)
        refine lv_iconst (v := 0) X.hx X.hb dX2_meetSand_19 (by decide) ?_
        refine lv_istore (lv' := [(5, .int 0), (4, .int 1), (0, .ref (ad b0)), (1, .int a1), (2, .int x1), (3, .int x2)]) X.hx X.hb dX2_meetSand_20 hl (by decide) rfl (fun ls hl => ?_)
        refine wX2_meetSand_L22 l b0 a1 x2 _ X hr hlk (fun x22 μ23 H locs ls hf h hl => ?_) 10000 _ _ _ _ _ _ hf h (lv_sub hl [2, 3, 5, 1, 0] rfl)
        refine lv_iload X.hx X.hb dX2_meetSand_71 (lv_at hl 3 rfl) ?_
        refine r_jn hf (fun j26 ej26 hf => ?_)
        have hj26 : ∀ (x24 : Int32) (μ25 : gM) (H : Heap) (locs : List Loc) (ls : Array Slot), j26 x24 μ25 = some r → gWd Γ A nz ad μ25 s.heap H locs → lv_has ls 6 [(0, .ref (ad b0)), (1, .int a1), (3, .int x2)] → W p l e ({ frames := 1, cells := 0, slots := 0, locals := 22 } : Room) s m args below meth c H locs 0 0 (MQ below (gQ0 Γ ad nz r A) args s 0 0 A) (F0 m 81 ls [.int x24]) := by
          intro x24 μ25 H locs ls hf h hl
          rw [ej26] at hf
          refine lv_istore_n (lv' := [(2, .int x24), (0, .ref (ad b0)), (1, .int a1), (3, .int x2)]) X.hx X.hb dX2_meetSand_81 rfl hl (by decide) rfl (fun ls hl => ?_)
          refine r_nmk hf (fun x27 ex hf => ?_)
          refine lv_iinc (v := x27) (lv' := [(3, .int x27), (2, .int x24), (0, .ref (ad b0)), (1, .int a1)]) X.hx X.hb dX2_meetSand_82 hl (k := 3) rfl (by rw [ex]; rfl) (by decide) rfl (fun ls hl => ?_)
          clear ex
          refine lv_goto (tgt := 4) X.hx X.hb dX2_meetSand_85 (by decide) ?_
          exact ih _ _ _ _ _ _ hf h (lv_sub hl [2, 3, 1, 0] rfl)
        clear ej26
        refine lv_if_ne (tgt := 80) X.hx X.hb dX2_meetSand_73 (by decide) (fun hc => ?_) (fun hc => ?_)
        · replace hf := gif_f hf hc
          clear hc
          refine lv_iconst (v := 0) X.hx X.hb dX2_meetSand_80 (by decide) ?_
          exact hj26 _ _ _ _ _ hf h (lv_sub hl [0, 1, 2] rfl)
        · replace hf := gif_t hf hc
          clear hc
          refine lv_iconst (v := 1) X.hx X.hb dX2_meetSand_76 (by decide) ?_
          refine lv_goto (tgt := 81) X.hx X.hb dX2_meetSand_77 (by decide) ?_
          exact hj26 _ _ _ _ _ hf h (lv_sub hl [0, 1, 2] rfl)
def fX2_meetSand_L90 (b0 : Nat) (a1 : Int32) (x29 : Int32) (kx128 : gM → gR) : Nat → Int32 → gM → gR
  | 0, _, _ => none
  | n33 + 1, x31, μ32 => gI (gfld μ32 b0 2 11) fun x34 => if x34 ≤ x31 then (kx128 μ32) else (if x29 = 0 then (kx128 μ32) else (gP (gfld μ32 b0 2 34) fun i35 => gI (gfld μ32 b0 2 33) fun x36 => gis μ32 b0 2 <| cI (fX2_v μ32 b0 a1 x31) fun x37 μ38 => gsI μ38 0 i35 ((6 * x36) + x31) x37 fun μ39 => gnm (x31 + 1) fun x40 => fX2_meetSand_L90 b0 a1 x29 kx128 n33 x40 μ39))
set_option maxHeartbeats 4000000 in
theorem wX2_meetSand_L90 {p : Program} {e : Env} {s : State} {m : MethodId} {args : Array Value} {below : List Frame} {meth : Method} {c : Code} {Γ : gG} {A : Nat → Prop} {nz : Nat} {ad : Nat → Nat} {r : Option Value × gM} (l : Launch) (b0 : Nat) (a1 : Int32) (x29 : Int32) (kx128 : gM → gR) (X : gX p m c cX2_meetSand 6 s args "SandPianoModel" Γ A) (hr : meth.sig.returnType = none) (hlk : meth.locks = false) (hk128 : ∀  (μ : gM) (H : Heap) (locs : List Loc) (ls : Array Slot), kx128  μ = some r → gWd Γ A nz ad μ s.heap H locs → lv_has ls 6 [(0, .ref (ad b0)), (2, .int x29)] → W p l e ({ frames := 1, cells := 0, slots := 0, locals := 22 } : Room) s m args below meth c H locs 0 0 (MQ below (gQ0 Γ ad nz r A) args s 0 0 A) (F0 m 128 ls [])) : ∀ (n33 : Nat) (x31 : Int32) (μ32 : gM) (H : Heap) (locs : List Loc) (ls : Array Slot), fX2_meetSand_L90 b0 a1 x29 kx128 n33 x31 μ32 = some r → gWd Γ A nz ad μ32 s.heap H locs → lv_has ls 6 [(0, .ref (ad b0)), (1, .int a1), (2, .int x29), (3, .int x31)] → W p l e ({ frames := 1, cells := 0, slots := 0, locals := 22 } : Room) s m args below meth c H locs 0 0 (MQ below (gQ0 Γ ad nz r A) args s 0 0 A) (F0 m 90 ls []) := by
  intro n33
  induction n33 with
  | zero =>
    intro x31 μ32 H locs ls hf h hl
    have hf : (none : gR) = some r := hf
    cases hf
  | succ n33 ih =>
    intro x31 μ32 H locs ls hf h hl
    rw [fX2_meetSand_L90] at hf
    refine lv_iload_n X.hx X.hb dX2_meetSand_90 rfl (lv_at hl 3 rfl) ?_
    refine lv_aload_n X.hx X.hb dX2_meetSand_91 rfl (lv_at hl 0 rfl) ?_
    refine r_getI X h (ci := 2) (k := 11) (C := RX2) (T := TX2) (N := 36) rfl in_X2 (by decide) q1070 rfl dX2_meetSand_92 hf (fun x34 hf => ?_)
    refine lv_icmp_ge (tgt := 128) X.hx X.hb dX2_meetSand_95 (by decide) (fun hc => ?_) (fun hc => ?_)
    · replace hf := gif_t hf hc
      clear hc
      exact hk128 _ _ _ _ hf h (lv_sub hl [0, 2] rfl)
    · replace hf := gif_f hf hc
      clear hc
      refine lv_iload_n X.hx X.hb dX2_meetSand_98 rfl (lv_at hl 2 rfl) ?_
      refine lv_if_eq (tgt := 128) X.hx X.hb dX2_meetSand_99 (by decide) (fun hc => ?_) (fun hc => ?_)
      · replace hf := gif_t hf hc
        clear hc
        exact hk128 _ _ _ _ hf h (lv_sub hl [0, 2] rfl)
      · replace hf := gif_f hf hc
        clear hc
        refine lv_aload_n X.hx X.hb dX2_meetSand_102 rfl (lv_at hl 0 rfl) ?_
        refine r_getP X h (ci := 2) (k := 34) (C := RX2) (T := TX2) (N := 36) rfl in_X2 (by decide) q1093 rfl dX2_meetSand_103 hf (fun i35 hf => ?_)
        refine lv_bipush (v := 6) X.hx X.hb dX2_meetSand_106 (by decide) ?_
        refine lv_aload_n X.hx X.hb dX2_meetSand_108 rfl (lv_at hl 0 rfl) ?_
        refine r_getI X h (ci := 2) (k := 33) (C := RX2) (T := TX2) (N := 36) rfl in_X2 (by decide) q1092 rfl dX2_meetSand_109 hf (fun x36 hf => ?_)
        refine lv_imul X.hx X.hb dX2_meetSand_112 ?_
        refine lv_iload_n X.hx X.hb dX2_meetSand_113 rfl (lv_at hl 3 rfl) ?_
        refine lv_iadd X.hx X.hb dX2_meetSand_114 ?_
        refine lv_aload_n X.hx X.hb dX2_meetSand_115 rfl (lv_at hl 0 rfl) ?_
        refine lv_iload_n X.hx X.hb dX2_meetSand_116 rfl (lv_at hl 1 rfl) ?_
        refine lv_iload_n X.hx X.hb dX2_meetSand_117 rfl (lv_at hl 3 rfl) ?_
        refine r_cVI (As := [.int a1, .int x31]) (rest := [.int ((6 * x36) + x31), .ref (ad i35)]) (C := RX2) (T := TX2) (N := 36) X h hf (fun res hres => wX2_v l Γ ad _ b0 a1 x31 res hres) rfl (cwV 2 X.hts (lw_V q1289 q1291 qs49 q84 q1292) rfl rfl rfl (by decide +kernel) ⟨Nat.le_of_ble_eq_true rfl, Nat.le_of_ble_eq_true rfl⟩) rfl ⟨hl.1, Nat.le_of_ble_eq_true rfl, Nat.le_of_ble_eq_true rfl, Nat.le_of_ble_eq_true rfl⟩ rfl dX2_meetSand_118 (fun x37 μ38 H locs hf h => ?_)
        refine r_iast X h dX2_meetSand_121 hf (fun μ39 H locs hf h => ?_)
        refine r_nmk hf (fun x40 ex hf => ?_)
        refine lv_iinc (v := x40) (lv' := [(3, .int x40), (0, .ref (ad b0)), (1, .int a1), (2, .int x29)]) X.hx X.hb dX2_meetSand_122 hl (k := 3) rfl (by rw [ex]; rfl) (by decide) rfl (fun ls hl => ?_)
        clear ex
        refine lv_goto (tgt := 90) X.hx X.hb dX2_meetSand_125 (by decide) ?_
        exact ih _ _ _ _ _ hf h (lv_sub hl [1, 2, 3, 0] rfl)
def fX2_meetSand (μ0 : gM) (b0 : Nat) (a1 : Int32) : gR := fX2_meetSand_L4 b0 a1 (fun (x29 : Int32) (μ30 : gM) => fX2_meetSand_L90 b0 a1 x29 (fun (μ41 : gM) => gI (gfld μ41 b0 2 33) fun x42 => gjn (fun (x43 : Int32) (μ44 : gM) => gpf μ44 b0 2 33 (.int (x42 + x43)) fun μ46 => some (none, μ46)) fun j45 => if x29 = 0 then (j45 0 μ41) else (j45 1 μ41)) 10000 0 μ30) 10000 1 0 μ0
set_option maxHeartbeats 4000000 in
theorem wX2_meetSand (l : Launch) (Γ : gG) (ad : Nat → Nat) (μ0 : gM) (b0 : Nat) (a1 : Int32) (r : Option Value × gM) (hf : fX2_meetSand μ0 b0 a1 = some r) : gMt0 l Γ yX2_meetSand (ws_ yX2_meetSand cX2_meetSand 6 none) ({ frames := 1, cells := 0, slots := 0, locals := 22 } : Room) 0 0 ad μ0 [.ref (ad b0), .int a1] r := by
  intro sz
  refine g_start (maxL := 6) (ret := none) (by decide) rfl g_all (Nat.le_of_ble_eq_true rfl) ?_
  intro p e s m below meth c ls hr hlk hnm X h hl
  generalize gA ad μ0 sz = A at X h ⊢
  generalize ([.ref (ad b0), .int a1] : List Value).toArray = args at X ⊢
  have X : gX p m c cX2_meetSand 6 s args "SandPianoModel" Γ A := X
  have hl : lv_has ls 6 [(0, .ref (ad b0)), (1, .int a1)] := hl
  show W p l e ({ frames := 1, cells := 0, slots := 0, locals := 22 } : Room) s m args below meth c s.heap [] 0 0 (MQ below (gQ0 Γ ad μ0.1 r A) args s 0 0 A) (F0 m 0 ls [])
  unfold fX2_meetSand at hf
  refine lv_iconst (v := 1) X.hx X.hb dX2_meetSand_0 (by decide) ?_
  refine lv_istore_n (lv' := [(2, .int 1), (0, .ref (ad b0)), (1, .int a1)]) X.hx X.hb dX2_meetSand_1 rfl hl (by decide) rfl (fun ls hl => ?_)
  refine lv_iconst (v := 0) X.hx X.hb dX2_meetSand_2 (by decide) ?_
  refine lv_istore_n (lv' := [(3, .int 0), (2, .int 1), (0, .ref (ad b0)), (1, .int a1)]) X.hx X.hb dX2_meetSand_3 rfl hl (by decide) rfl (fun ls hl => ?_)
  refine wX2_meetSand_L4 l b0 a1 _ X hr hlk (fun x29 μ30 H locs ls hf h hl => ?_) 10000 _ _ _ _ _ _ hf h (lv_sub hl [2, 3, 1, 0] rfl)
  refine lv_iconst (v := 0) X.hx X.hb dX2_meetSand_88 (by decide) ?_
  refine lv_istore_n (lv' := [(3, .int 0), (0, .ref (ad b0)), (1, .int a1), (2, .int x29)]) X.hx X.hb dX2_meetSand_89 rfl hl (by decide) rfl (fun ls hl => ?_)
  refine wX2_meetSand_L90 l b0 a1 x29 _ X hr hlk (fun μ41 H locs ls hf h hl => ?_) 10000 _ _ _ _ _ hf h (lv_sub hl [1, 2, 3, 0] rfl)
  refine lv_aload_n X.hx X.hb dX2_meetSand_128 rfl (lv_at hl 0 rfl) ?_
  refine lv_dup X.hx X.hb dX2_meetSand_129 rfl ?_
  refine r_getI X h (ci := 2) (k := 33) (C := RX2) (T := TX2) (N := 36) rfl in_X2 (by decide) q1092 rfl dX2_meetSand_130 hf (fun x42 hf => ?_)
  refine lv_iload_n X.hx X.hb dX2_meetSand_133 rfl (lv_at hl 1 rfl) ?_
  refine r_jn hf (fun j45 ej45 hf => ?_)
  have hj45 : ∀ (x43 : Int32) (μ44 : gM) (H : Heap) (locs : List Loc) (ls : Array Slot), j45 x43 μ44 = some r → gWd Γ A μ0.1 ad μ44 s.heap H locs → lv_has ls 6 [] → W p l e ({ frames := 1, cells := 0, slots := 0, locals := 22 } : Room) s m args below meth c H locs 0 0 (MQ below (gQ0 Γ ad μ0.1 r A) args s 0 0 A) (F0 m 142 ls [.int x43, .int x42, .ref (ad b0)]) := by
    intro x43 μ44 H locs ls hf h hl
    rw [ej45] at hf
    refine lv_iadd X.hx X.hb dX2_meetSand_142 ?_
    refine r_put X h (ci := 2) (k := 33) (C := RX2) (T := TX2) (N := 36) (ty0 := tyX2) (ty := .int) (v := .int (x42 + x43)) rfl in_X2 tyX2_ok nmX2 (by decide) q1092 rfl rfl (by decide +kernel) rfl rfl (fun j hj => by cases hj) dX2_meetSand_143 hf (fun μ46 H locs hf h => ?_)
    exact r_rv X h hr hlk (Nat.le_of_ble_eq_true rfl) (Nat.le_of_ble_eq_true rfl) dX2_meetSand_146 hf
  clear ej45
  refine lv_if_eq (tgt := 141) X.hx X.hb dX2_meetSand_134 (by decide) (fun hc => ?_) (fun hc => ?_)
  · replace hf := gif_t hf hc
    clear hc
    refine lv_iconst (v := 0) X.hx X.hb dX2_meetSand_141 (by decide) ?_
    exact hj45 _ _ _ _ _ hf h (lv_sub hl [] rfl)
  · replace hf := gif_f hf hc
    clear hc
    refine lv_iconst (v := 1) X.hx X.hb dX2_meetSand_137 (by decide) ?_
    refine lv_goto (tgt := 142) X.hx X.hb dX2_meetSand_138 (by decide) ?_
    exact hj45 _ _ _ _ _ hf h (lv_sub hl [] rfl)
/-! X2_layRows -/
def fX2_layRows_L23 (rec : gM → Nat → Int32 → Int32 → gR) (b0 : Nat) (a1 : Int32) (a2 : Int32) : Nat → Int32 → gM → gR
  | 0, _, _ => none
  | n3 + 1, x1, μ2 => gI (gfld μ2 b0 2 11) fun x4 => if x4 ≤ x1 then (some (none, μ2)) else (gis μ2 b0 2 <| cI (fX2_canPlay μ2 b0 a1 x1) fun x5 μ6 => gjn (fun  (μ7 : gM) => gnm (x1 + 1) fun x9 => fX2_layRows_L23 rec b0 a1 a2 n3 x9 μ7) fun j8 => if x5 = 0 then (j8 μ6) else (gis μ6 b0 2 <| cV (fX2_copyTo μ6 b0 a1 (a1 + 1)) fun μ10 => gis μ10 b0 2 <| cV (fX2_plays μ10 b0 (a1 + 1) x1) fun μ11 => gis μ11 b0 2 <| cV (rec μ11 b0 (a1 + 1) a2) fun μ12 => j8 μ12))
set_option maxHeartbeats 4000000 in
theorem wX2_layRows_L23 {p : Program} {e : Env} {s : State} {m : MethodId} {args : Array Value} {below : List Frame} {meth : Method} {c : Code} {Γ : gG} {A : Nat → Prop} {nz : Nat} {ad : Nat → Nat} {r : Option Value × gM} (l : Launch) (dd : Nat) (rec : gM → Nat → Int32 → Int32 → gR) (b0 : Nat) (a1 : Int32) (a2 : Int32) (X : gX p m c cX2_layRows 4 s args "SandPianoModel" Γ A) (hr : meth.sig.returnType = none) (hlk : meth.locks = false) (hrec : ∀ (ad : Nat → Nat) (μ : gM) (b0 : Nat) (a1 : Int32) (a2 : Int32) (r : Option Value × gM), rec μ b0 a1 a2 = some r → gMt0 l Γ yX2_layRows (ws_ yX2_layRows cX2_layRows 4 none) ({ frames := 3 + dd, cells := 0, slots := 0, locals := 70 + dd * 23 } : Room) 0 0 ad μ [.ref (ad b0), .int a1, .int a2] r) : ∀ (n3 : Nat) (x1 : Int32) (μ2 : gM) (H : Heap) (locs : List Loc) (ls : Array Slot), fX2_layRows_L23 rec b0 a1 a2 n3 x1 μ2 = some r → gWd Γ A nz ad μ2 s.heap H locs → lv_has ls 4 [(0, .ref (ad b0)), (1, .int a1), (2, .int a2), (3, .int x1)] → W p l e ({ frames := 3 + (dd + 1), cells := 0, slots := 0, locals := 70 + (dd + 1) * 23 } : Room) s m args below meth c H locs 0 0 (MQ below (gQ0 Γ ad nz r A) args s 0 0 A) (F0 m 23 ls []) := by
  intro n3
  induction n3 with
  | zero =>
    intro x1 μ2 H locs ls hf h hl
    have hf : (none : gR) = some r := hf
    cases hf
  | succ n3 ih =>
    intro x1 μ2 H locs ls hf h hl
    rw [fX2_layRows_L23] at hf
    refine lv_iload_n X.hx X.hb dX2_layRows_23 rfl (lv_at hl 3 rfl) ?_
    refine lv_aload_n X.hx X.hb dX2_layRows_24 rfl (lv_at hl 0 rfl) ?_
    refine r_getI X h (ci := 2) (k := 11) (C := RX2) (T := TX2) (N := 36) rfl in_X2 (by decide) q1070 rfl dX2_layRows_25 hf (fun x4 hf => ?_)
    refine lv_icmp_ge (tgt := 70) X.hx X.hb dX2_layRows_28 (by decide) (fun hc => ?_) (fun hc => ?_)
    · replace hf := gif_t hf hc
      clear hc
      exact r_rv X h hr hlk ((by first | exact Nat.le_of_ble_eq_true rfl | omega | (dsimp only; omega))) ((by first | exact Nat.le_of_ble_eq_true rfl | omega | (dsimp only; omega))) dX2_layRows_70 hf
    · replace hf := gif_f hf hc
      clear hc
      refine lv_aload_n X.hx X.hb dX2_layRows_31 rfl (lv_at hl 0 rfl) ?_
      refine lv_iload_n X.hx X.hb dX2_layRows_32 rfl (lv_at hl 1 rfl) ?_
      refine lv_iload_n X.hx X.hb dX2_layRows_33 rfl (lv_at hl 3 rfl) ?_
      refine r_cVI (As := [.int a1, .int x1]) (rest := []) (C := RX2) (T := TX2) (N := 36) X h hf (fun res hres => wX2_canPlay l Γ ad _ b0 a1 x1 res hres) rfl (cwV 2 X.hts (lw_V q1293 q1295 qs50 q84 q1296) rfl rfl rfl (by decide +kernel) ⟨(by first | exact Nat.le_of_ble_eq_true rfl | omega | (dsimp only; omega)), (by first | exact Nat.le_of_ble_eq_true rfl | omega | (dsimp only; omega))⟩) rfl ⟨hl.1, Nat.le_of_ble_eq_true rfl, (by first | exact Nat.le_of_ble_eq_true rfl | omega | (dsimp only; omega)), (by first | exact Nat.le_of_ble_eq_true rfl | omega | (dsimp only; omega))⟩ rfl dX2_layRows_34 (fun x5 μ6 H locs hf h => ?_)
      refine r_jn hf (fun j8 ej8 hf => ?_)
      have hj8 : ∀  (μ7 : gM) (H : Heap) (locs : List Loc) (ls : Array Slot), j8  μ7 = some r → gWd Γ A nz ad μ7 s.heap H locs → lv_has ls 4 [(0, .ref (ad b0)), (1, .int a1), (2, .int a2), (3, .int x1)] → W p l e ({ frames := 3 + (dd + 1), cells := 0, slots := 0, locals := 70 + (dd + 1) * 23 } : Room) s m args below meth c H locs 0 0 (MQ below (gQ0 Γ ad nz r A) args s 0 0 A) (F0 m 64 ls []) := by
        intro μ7 H locs ls hf h hl
        rw [ej8] at hf
        refine r_nmk hf (fun x9 ex hf => ?_)
        refine lv_iinc (v := x9) (lv' := [(3, .int x9), (0, .ref (ad b0)), (1, .int a1), (2, .int a2)]) X.hx X.hb dX2_layRows_64 hl (k := 3) rfl (by rw [ex]; rfl) (by decide) rfl (fun ls hl => ?_)
        clear ex
        refine lv_goto (tgt := 23) X.hx X.hb dX2_layRows_67 (by decide) ?_
        exact ih _ _ _ _ _ hf h (lv_sub hl [1, 2, 3, 0] rfl)
      clear ej8
      refine lv_if_eq (tgt := 64) X.hx X.hb dX2_layRows_37 (by decide) (fun hc => ?_) (fun hc => ?_)
      · replace hf := gif_t hf hc
        clear hc
        exact hj8 _ _ _ _ hf h (lv_sub hl [0, 1, 2, 3] rfl)
      · replace hf := gif_f hf hc
        clear hc
        refine lv_aload_n X.hx X.hb dX2_layRows_40 rfl (lv_at hl 0 rfl) ?_
        refine lv_iload_n X.hx X.hb dX2_layRows_41 rfl (lv_at hl 1 rfl) ?_
        refine lv_iload_n X.hx X.hb dX2_layRows_42 rfl (lv_at hl 1 rfl) ?_
        refine lv_iconst (v := 1) X.hx X.hb dX2_layRows_43 (by decide) ?_
        refine lv_iadd X.hx X.hb dX2_layRows_44 ?_
        refine r_cVV (As := [.int a1, .int (a1 + 1)]) (rest := []) (C := RX2) (T := TX2) (N := 36) X h hf (fun res hres => wX2_copyTo l Γ ad _ b0 a1 (a1 + 1) res hres) rfl (cwV 2 X.hts (lw_V q1398 q1400 qs63 q84 q1401) rfl rfl rfl (by decide +kernel) ⟨(by first | exact Nat.le_of_ble_eq_true rfl | omega | (dsimp only; omega)), (by first | exact Nat.le_of_ble_eq_true rfl | omega | (dsimp only; omega))⟩) rfl ⟨hl.1, Nat.le_of_ble_eq_true rfl, (by first | exact Nat.le_of_ble_eq_true rfl | omega | (dsimp only; omega)), (by first | exact Nat.le_of_ble_eq_true rfl | omega | (dsimp only; omega))⟩ rfl dX2_layRows_45 (fun μ10 H locs hf h => ?_)
        refine lv_aload_n X.hx X.hb dX2_layRows_48 rfl (lv_at hl 0 rfl) ?_
        refine lv_iload_n X.hx X.hb dX2_layRows_49 rfl (lv_at hl 1 rfl) ?_
        refine lv_iconst (v := 1) X.hx X.hb dX2_layRows_50 (by decide) ?_
        refine lv_iadd X.hx X.hb dX2_layRows_51 ?_
        refine lv_iload_n X.hx X.hb dX2_layRows_52 rfl (lv_at hl 3 rfl) ?_
        refine r_cVV (As := [.int (a1 + 1), .int x1]) (rest := []) (C := RX2) (T := TX2) (N := 36) X h hf (fun res hres => wX2_plays l Γ ad _ b0 (a1 + 1) x1 res hres) rfl (cwV 2 X.hts (lw_V q1330 q1332 qs54 q84 q1333) rfl rfl rfl (by decide +kernel) ⟨(by first | exact Nat.le_of_ble_eq_true rfl | omega | (dsimp only; omega)), (by first | exact Nat.le_of_ble_eq_true rfl | omega | (dsimp only; omega))⟩) rfl ⟨hl.1, Nat.le_of_ble_eq_true rfl, (by first | exact Nat.le_of_ble_eq_true rfl | omega | (dsimp only; omega)), (by first | exact Nat.le_of_ble_eq_true rfl | omega | (dsimp only; omega))⟩ rfl dX2_layRows_53 (fun μ11 H locs hf h => ?_)
        refine lv_aload_n X.hx X.hb dX2_layRows_56 rfl (lv_at hl 0 rfl) ?_
        refine lv_iload_n X.hx X.hb dX2_layRows_57 rfl (lv_at hl 1 rfl) ?_
        refine lv_iconst (v := 1) X.hx X.hb dX2_layRows_58 (by decide) ?_
        refine lv_iadd X.hx X.hb dX2_layRows_59 ?_
        refine lv_iload_n X.hx X.hb dX2_layRows_60 rfl (lv_at hl 2 rfl) ?_
        refine r_cVV (As := [.int (a1 + 1), .int a2]) (rest := []) (C := RX2) (T := TX2) (N := 36) X h hf (fun res hres => hrec ad _ b0 (a1 + 1) a2 res hres) rfl (cwV 2 X.hts (lw_V q1457 q1459 qs70 q84 q1460) rfl rfl rfl (by decide +kernel) ⟨(by first | exact Nat.le_of_ble_eq_true rfl | omega | (dsimp only; omega)), (by first | exact Nat.le_of_ble_eq_true rfl | omega | (dsimp only; omega))⟩) rfl ⟨hl.1, Nat.le_of_ble_eq_true rfl, (by first | exact Nat.le_of_ble_eq_true rfl | omega | (dsimp only; omega)), (by first | exact Nat.le_of_ble_eq_true rfl | omega | (dsimp only; omega))⟩ rfl dX2_layRows_61 (fun μ12 H locs hf h => ?_)
        exact hj8 _ _ _ _ hf h (lv_sub hl [0, 1, 2, 3] rfl)
def fX2_layRows_B (rec : gM → Nat → Int32 → Int32 → gR) (μ0 : gM) (b0 : Nat) (a1 : Int32) (a2 : Int32) : gR := if a1 = a2 then (gI (gfld μ0 b0 2 32) fun x13 => gpf μ0 b0 2 32 (.int (x13 + 1)) fun μ14 => gis μ14 b0 2 <| cV (fX2_meetSand μ14 b0 a1) fun μ15 => some (none, μ15)) else (fX2_layRows_L23 rec b0 a1 a2 10000 0 μ0)
set_option maxHeartbeats 4000000 in
theorem wX2_layRows_B (l : Launch) (Γ : gG) (dd : Nat) (rec : gM → Nat → Int32 → Int32 → gR) (hrec : ∀ (ad : Nat → Nat) (μ : gM) (b0 : Nat) (a1 : Int32) (a2 : Int32) (r : Option Value × gM), rec μ b0 a1 a2 = some r → gMt0 l Γ yX2_layRows (ws_ yX2_layRows cX2_layRows 4 none) ({ frames := 3 + dd, cells := 0, slots := 0, locals := 70 + dd * 23 } : Room) 0 0 ad μ [.ref (ad b0), .int a1, .int a2] r) (ad : Nat → Nat) (μ0 : gM) (b0 : Nat) (a1 : Int32) (a2 : Int32) (r : Option Value × gM) (hf : fX2_layRows_B rec μ0 b0 a1 a2 = some r) : gMt0 l Γ yX2_layRows (ws_ yX2_layRows cX2_layRows 4 none) ({ frames := 3 + (dd + 1), cells := 0, slots := 0, locals := 70 + (dd + 1) * 23 } : Room) 0 0 ad μ0 [.ref (ad b0), .int a1, .int a2] r := by
  intro sz
  refine g_start (maxL := 4) (ret := none) (by decide) rfl g_all (Nat.le_of_ble_eq_true rfl) ?_
  intro p e s m below meth c ls hr hlk hnm X h hl
  generalize gA ad μ0 sz = A at X h ⊢
  generalize ([.ref (ad b0), .int a1, .int a2] : List Value).toArray = args at X ⊢
  have X : gX p m c cX2_layRows 4 s args "SandPianoModel" Γ A := X
  have hl : lv_has ls 4 [(0, .ref (ad b0)), (1, .int a1), (2, .int a2)] := hl
  show W p l e ({ frames := 3 + (dd + 1), cells := 0, slots := 0, locals := 70 + (dd + 1) * 23 } : Room) s m args below meth c s.heap [] 0 0 (MQ below (gQ0 Γ ad μ0.1 r A) args s 0 0 A) (F0 m 0 ls [])
  unfold fX2_layRows_B at hf
  refine lv_iload_n X.hx X.hb dX2_layRows_0 rfl (lv_at hl 1 rfl) ?_
  refine lv_iload_n X.hx X.hb dX2_layRows_1 rfl (lv_at hl 2 rfl) ?_
  refine lv_icmp_ne (tgt := 21) X.hx X.hb dX2_layRows_2 (by decide) (fun hc => ?_) (fun hc => ?_)
  · replace hf := gif_f hf hc
    clear hc
    refine lv_iconst (v := 0) X.hx X.hb dX2_layRows_21 (by decide) ?_
    refine lv_istore_n (lv' := [(3, .int 0), (0, .ref (ad b0)), (1, .int a1), (2, .int a2)]) X.hx X.hb dX2_layRows_22 rfl hl (by decide) rfl (fun ls hl => ?_)
    refine wX2_layRows_L23 l _ rec b0 a1 a2 X hr hlk hrec 10000 _ _ _ _ _ hf h (lv_sub hl [1, 2, 3, 0] rfl)
  · replace hf := gif_t hf hc
    clear hc
    refine lv_aload_n X.hx X.hb dX2_layRows_5 rfl (lv_at hl 0 rfl) ?_
    refine lv_dup X.hx X.hb dX2_layRows_6 rfl ?_
    refine r_getI X h (ci := 2) (k := 32) (C := RX2) (T := TX2) (N := 36) rfl in_X2 (by decide) q1091 rfl dX2_layRows_7 hf (fun x13 hf => ?_)
    refine lv_iconst (v := 1) X.hx X.hb dX2_layRows_10 (by decide) ?_
    refine lv_iadd X.hx X.hb dX2_layRows_11 ?_
    refine r_put X h (ci := 2) (k := 32) (C := RX2) (T := TX2) (N := 36) (ty0 := tyX2) (ty := .int) (v := .int (x13 + 1)) rfl in_X2 tyX2_ok nmX2 (by decide) q1091 rfl rfl (by decide +kernel) rfl rfl (fun j hj => by cases hj) dX2_layRows_12 hf (fun μ14 H locs hf h => ?_)
    refine lv_aload_n X.hx X.hb dX2_layRows_15 rfl (lv_at hl 0 rfl) ?_
    refine lv_iload_n X.hx X.hb dX2_layRows_16 rfl (lv_at hl 1 rfl) ?_
    refine r_cVV (As := [.int a1]) (rest := []) (C := RX2) (T := TX2) (N := 36) X h hf (fun res hres => wX2_meetSand l Γ ad _ b0 a1 res hres) rfl (cwV 1 X.hts (lw_V q1461 q1463 qs71 q84 q1464) rfl rfl rfl (by decide +kernel) ⟨(by first | exact Nat.le_of_ble_eq_true rfl | omega | (dsimp only; omega)), (by first | exact Nat.le_of_ble_eq_true rfl | omega | (dsimp only; omega))⟩) rfl ⟨hl.1, Nat.le_of_ble_eq_true rfl, (by first | exact Nat.le_of_ble_eq_true rfl | omega | (dsimp only; omega)), (by first | exact Nat.le_of_ble_eq_true rfl | omega | (dsimp only; omega))⟩ rfl dX2_layRows_17 (fun μ15 H locs hf h => ?_)
    exact r_rv X h hr hlk ((by first | exact Nat.le_of_ble_eq_true rfl | omega | (dsimp only; omega))) ((by first | exact Nat.le_of_ble_eq_true rfl | omega | (dsimp only; omega))) dX2_layRows_20 hf
def fX2_layRows : Nat → gM → Nat → Int32 → Int32 → gR
  | 0, _, _, _, _ => none
  | d + 1, μ0, b0, a1, a2 => fX2_layRows_B (fX2_layRows d) μ0 b0 a1 a2
theorem wX2_layRows (l : Launch) (Γ : gG) : ∀ (dd : Nat) (ad : Nat → Nat) (μ0 : gM) (b0 : Nat) (a1 : Int32) (a2 : Int32) (r : Option Value × gM), fX2_layRows dd μ0 b0 a1 a2 = some r → gMt0 l Γ yX2_layRows (ws_ yX2_layRows cX2_layRows 4 none) ({ frames := 3 + dd, cells := 0, slots := 0, locals := 70 + dd * 23 } : Room) 0 0 ad μ0 [.ref (ad b0), .int a1, .int a2] r := by
  intro dd
  induction dd with
  | zero =>
    intro ad μ0 b0 a1 a2 r hf
    have hf : (none : gR) = some r := hf
    cases hf
  | succ dd ih =>
    intro ad μ0 b0 a1 a2 r hf
    exact wX2_layRows_B l Γ dd (fX2_layRows dd) ih ad μ0 b0 a1 a2 r hf
/-! X2_lower -/
def fX2_lower (μ0 : gM) (b0 : Nat) : gR := gJ (gfld μ0 b0 2 4) fun x1 => some (some (.long x1), μ0)
set_option maxHeartbeats 4000000 in
theorem wX2_lower (l : Launch) (Γ : gG) (ad : Nat → Nat) (μ0 : gM) (b0 : Nat) (r : Option Value × gM) (hf : fX2_lower μ0 b0 = some r) : gMt0 l Γ yX2_lower (ws_ yX2_lower cX2_lower 1 (some .long)) ({ frames := 0, cells := 0, slots := 0, locals := 0 } : Room) 0 0 ad μ0 [.ref (ad b0)] r := by
  intro sz
  refine g_start (maxL := 1) (ret := (some .long)) (by decide) rfl g_all (Nat.le_of_ble_eq_true rfl) ?_
  intro p e s m below meth c ls hr hlk hnm X h hl
  generalize gA ad μ0 sz = A at X h ⊢
  generalize ([.ref (ad b0)] : List Value).toArray = args at X ⊢
  have X : gX p m c cX2_lower 1 s args "SandPianoModel" Γ A := X
  have hl : lv_has ls 1 [(0, .ref (ad b0))] := hl
  show W p l e ({ frames := 0, cells := 0, slots := 0, locals := 0 } : Room) s m args below meth c s.heap [] 0 0 (MQ below (gQ0 Γ ad μ0.1 r A) args s 0 0 A) (F0 m 0 ls [])
  unfold fX2_lower at hf
  refine lv_aload_n X.hx X.hb dX2_lower_0 rfl (lv_at hl 0 rfl) ?_
  refine r_getJ X h (ci := 2) (k := 4) (C := RX2) (T := TX2) (N := 36) rfl in_X2 (by decide) q1063 rfl dX2_lower_1 hf (fun x1 hf => ?_)
  exact r_rl X h hr hlk (Nat.le_of_ble_eq_true rfl) (Nat.le_of_ble_eq_true rfl) dX2_lower_4 hf
/-! X2_mark -/
def fX2_mark (μ0 : gM) (b0 : Nat) (a1 : Int32) (a2 : Int32) : gR := gis μ0 b0 2 <| cI (fX2_isKey μ0 b0 a1) fun x1 μ2 => if x1 = 0 then (some (some (.int (-1)), μ2)) else (cI (fX2_in μ2 a2 1 5) fun x3 μ4 => if x3 = 0 then (some (some (.int (-1)), μ4)) else (gP (gfld μ4 b0 2 12) fun i5 => gaI μ4 0 i5 a1 fun x6 => gjn (fun  (μ7 : gM) => if a2 = 1 then (gis μ7 b0 2 <| cI (fX2_v μ7 b0 0 a1) fun x9 μ10 => cI (fX2_lesser μ10 2 x9) fun x11 μ12 => some (some (.int x11), μ12)) else if a2 = 2 then (gis μ7 b0 2 <| cI (fX2_v μ7 b0 0 a1) fun x13 μ14 => gP (gfld μ14 b0 2 13) fun i15 => gaI μ14 0 i15 a1 fun x16 => cI (fX2_greater μ14 0 (x13 - x16)) fun x17 μ18 => some (some (.int x17), μ18)) else if a2 = 3 then (gis μ7 b0 2 <| cI (fX2_leftOf μ7 b0 a1) fun x19 μ20 => gis μ20 b0 2 <| cI (fX2_v μ20 b0 0 x19) fun x21 μ22 => some (some (.int x21), μ22)) else if a2 = 4 then (some (some (.int a1), μ7)) else (gI (gfld μ7 b0 2 11) fun x23 => gis μ7 b0 2 <| cI (fX2_canSet μ7 b0 0) fun x24 μ25 => cI (fX2_bits μ25 x24) fun x26 μ27 => some (some (.int (x23 - x26)), μ27))) fun j8 => if x6 = a2 then (j8 μ4) else (gjn (fun  (μ28 : gM) => gjn (fun  (μ30 : gM) => gis μ30 b0 2 <| cI (fX2_meets μ30 b0 3) fun x32 μ33 => some (some (.int x32), μ33)) fun j31 => if a2 = 2 then (if x6 = 5 then (j8 μ28) else (j31 μ28)) else (j31 μ28)) fun j29 => if a2 = 1 then (if x6 = 4 then (j8 μ4) else (j29 μ4)) else (j29 μ4))))
set_option maxHeartbeats 4000000 in
theorem wX2_mark (l : Launch) (Γ : gG) (ad : Nat → Nat) (μ0 : gM) (b0 : Nat) (a1 : Int32) (a2 : Int32) (r : Option Value × gM) (hf : fX2_mark μ0 b0 a1 a2 = some r) : gMt0 l Γ yX2_mark (ws_ yX2_mark cX2_mark 4 (some .int)) ({ frames := 3, cells := 0, slots := 0, locals := 68 } : Room) 0 0 ad μ0 [.ref (ad b0), .int a1, .int a2] r := by
  intro sz
  refine g_start (maxL := 4) (ret := (some .int)) (by decide) rfl g_all (Nat.le_of_ble_eq_true rfl) ?_
  intro p e s m below meth c ls hr hlk hnm X h hl
  generalize gA ad μ0 sz = A at X h ⊢
  generalize ([.ref (ad b0), .int a1, .int a2] : List Value).toArray = args at X ⊢
  have X : gX p m c cX2_mark 4 s args "SandPianoModel" Γ A := X
  have hl : lv_has ls 4 [(0, .ref (ad b0)), (1, .int a1), (2, .int a2)] := hl
  show W p l e ({ frames := 3, cells := 0, slots := 0, locals := 68 } : Room) s m args below meth c s.heap [] 0 0 (MQ below (gQ0 Γ ad μ0.1 r A) args s 0 0 A) (F0 m 0 ls [])
  unfold fX2_mark at hf
  refine lv_aload_n X.hx X.hb dX2_mark_0 rfl (lv_at hl 0 rfl) ?_
  refine lv_iload_n X.hx X.hb dX2_mark_1 rfl (lv_at hl 1 rfl) ?_
  refine r_cVI (As := [.int a1]) (rest := []) (C := RX2) (T := TX2) (N := 36) X h hf (fun res hres => wX2_isKey l Γ ad _ b0 a1 res hres) rfl (cwV 1 X.hts (lw_V q1281 q1283 qs47 q84 q1284) rfl rfl rfl (by decide +kernel) ⟨Nat.le_of_ble_eq_true rfl, Nat.le_of_ble_eq_true rfl⟩) rfl ⟨hl.1, Nat.le_of_ble_eq_true rfl, Nat.le_of_ble_eq_true rfl, Nat.le_of_ble_eq_true rfl⟩ rfl dX2_mark_2 (fun x1 μ2 H locs hf h => ?_)
  refine lv_if_eq (tgt := 17) X.hx X.hb dX2_mark_5 (by decide) (fun hc => ?_) (fun hc => ?_)
  · replace hf := gif_t hf hc
    clear hc
    refine lv_iconst (v := (-1)) X.hx X.hb dX2_mark_17 (by decide) ?_
    exact r_ri X h hr hlk (Nat.le_of_ble_eq_true rfl) (Nat.le_of_ble_eq_true rfl) dX2_mark_18 hf
  · replace hf := gif_f hf hc
    clear hc
    refine lv_iload_n X.hx X.hb dX2_mark_8 rfl (lv_at hl 2 rfl) ?_
    refine lv_iconst (v := 1) X.hx X.hb dX2_mark_9 (by decide) ?_
    refine lv_iconst (v := 5) X.hx X.hb dX2_mark_10 (by decide) ?_
    refine r_cSI (As := [.int a2, .int 1, .int 5]) (rest := []) X h hf (fun res hres => wX2_in l Γ ad _ a2 1 5 res hres) (va_cwS 3 X.hts (lw_S q1177 q1178 q84 q1179) rfl rfl rfl (by decide +kernel) ⟨Nat.le_of_ble_eq_true rfl, Nat.le_of_ble_eq_true rfl⟩) rfl ⟨hl.1, Nat.le_of_ble_eq_true rfl, Nat.le_of_ble_eq_true rfl, Nat.le_of_ble_eq_true rfl⟩ rfl dX2_mark_11 (fun x3 μ4 H locs hf h => ?_)
    refine lv_if_ne (tgt := 19) X.hx X.hb dX2_mark_14 (by decide) (fun hc => ?_) (fun hc => ?_)
    · replace hf := gif_f hf hc
      clear hc
      refine lv_aload_n X.hx X.hb dX2_mark_19 rfl (lv_at hl 0 rfl) ?_
      refine r_getP X h (ci := 2) (k := 12) (C := RX2) (T := TX2) (N := 36) rfl in_X2 (by decide) q1071 rfl dX2_mark_20 hf (fun i5 hf => ?_)
      refine lv_iload_n X.hx X.hb dX2_mark_23 rfl (lv_at hl 1 rfl) ?_
      refine r_iald X h dX2_mark_24 hf (fun x6 hf => ?_)
      refine lv_istore_n (lv' := [(3, .int x6), (0, .ref (ad b0)), (1, .int a1), (2, .int a2)]) X.hx X.hb dX2_mark_25 rfl hl (by decide) rfl (fun ls hl => ?_)
      refine lv_iload_n X.hx X.hb dX2_mark_26 rfl (lv_at hl 0 rfl) ?_
      refine lv_iload_n X.hx X.hb dX2_mark_27 rfl (lv_at hl 3 rfl) ?_
      refine r_jn hf (fun j8 ej8 hf => ?_)
      have hj8 : ∀  (μ7 : gM) (H : Heap) (locs : List Loc) (ls : Array Slot), j8  μ7 = some r → gWd Γ A μ0.1 ad μ7 s.heap H locs → lv_has ls 4 [(0, .ref (ad b0)), (1, .int a1), (2, .int a2)] → W p l e ({ frames := 3, cells := 0, slots := 0, locals := 68 } : Room) s m args below meth c H locs 0 0 (MQ below (gQ0 Γ ad μ0.1 r A) args s 0 0 A) (F0 m 57 ls []) := by
        intro μ7 H locs ls hf h hl
        rw [ej8] at hf
        refine lv_iload_n X.hx X.hb dX2_mark_57 rfl (lv_at hl 2 rfl) ?_
        by_cases hc0 : a2 = 1
        · replace hf := gif_t hf hc0
          refine lv_tableIn (tgt := 88) X.hx X.hb dX2_mark_58 (by rw [hc0]; decide) (by rw [hc0]; decide) (by rw [hc0]; rfl) (by decide) ?_
          clear hc0
          refine lv_iconst (v := 2) X.hx X.hb dX2_mark_88 (by decide) ?_
          refine lv_aload_n X.hx X.hb dX2_mark_89 rfl (lv_at hl 0 rfl) ?_
          refine lv_iconst (v := 0) X.hx X.hb dX2_mark_90 (by decide) ?_
          refine lv_iload_n X.hx X.hb dX2_mark_91 rfl (lv_at hl 1 rfl) ?_
          refine r_cVI (As := [.int 0, .int a1]) (rest := [.int 2]) (C := RX2) (T := TX2) (N := 36) X h hf (fun res hres => wX2_v l Γ ad _ b0 0 a1 res hres) rfl (cwV 2 X.hts (lw_V q1289 q1291 qs49 q84 q1292) rfl rfl rfl (by decide +kernel) ⟨Nat.le_of_ble_eq_true rfl, Nat.le_of_ble_eq_true rfl⟩) rfl ⟨hl.1, Nat.le_of_ble_eq_true rfl, Nat.le_of_ble_eq_true rfl, Nat.le_of_ble_eq_true rfl⟩ rfl dX2_mark_92 (fun x9 μ10 H locs hf h => ?_)
          refine r_cSI (As := [.int 2, .int x9]) (rest := []) X h hf (fun res hres => wX2_lesser l Γ ad _ 2 x9 res hres) (va_cwS 2 X.hts (lw_S q1301 q1302 q84 q1303) rfl rfl rfl (by decide +kernel) ⟨Nat.le_of_ble_eq_true rfl, Nat.le_of_ble_eq_true rfl⟩) rfl ⟨hl.1, Nat.le_of_ble_eq_true rfl, Nat.le_of_ble_eq_true rfl, Nat.le_of_ble_eq_true rfl⟩ rfl dX2_mark_95 (fun x11 μ12 H locs hf h => ?_)
          exact r_ri X h hr hlk (Nat.le_of_ble_eq_true rfl) (Nat.le_of_ble_eq_true rfl) dX2_mark_98 hf
        replace hf := gif_f hf hc0
        by_cases hc1 : a2 = 2
        · replace hf := gif_t hf hc1
          refine lv_tableIn (tgt := 99) X.hx X.hb dX2_mark_58 (by rw [hc1]; decide) (by rw [hc1]; decide) (by rw [hc1]; rfl) (by decide) ?_
          clear hc1
          refine lv_iconst (v := 0) X.hx X.hb dX2_mark_99 (by decide) ?_
          refine lv_aload_n X.hx X.hb dX2_mark_100 rfl (lv_at hl 0 rfl) ?_
          refine lv_iconst (v := 0) X.hx X.hb dX2_mark_101 (by decide) ?_
          refine lv_iload_n X.hx X.hb dX2_mark_102 rfl (lv_at hl 1 rfl) ?_
          refine r_cVI (As := [.int 0, .int a1]) (rest := [.int 0]) (C := RX2) (T := TX2) (N := 36) X h hf (fun res hres => wX2_v l Γ ad _ b0 0 a1 res hres) rfl (cwV 2 X.hts (lw_V q1289 q1291 qs49 q84 q1292) rfl rfl rfl (by decide +kernel) ⟨Nat.le_of_ble_eq_true rfl, Nat.le_of_ble_eq_true rfl⟩) rfl ⟨hl.1, Nat.le_of_ble_eq_true rfl, Nat.le_of_ble_eq_true rfl, Nat.le_of_ble_eq_true rfl⟩ rfl dX2_mark_103 (fun x13 μ14 H locs hf h => ?_)
          refine lv_aload_n X.hx X.hb dX2_mark_106 rfl (lv_at hl 0 rfl) ?_
          refine r_getP X h (ci := 2) (k := 13) (C := RX2) (T := TX2) (N := 36) rfl in_X2 (by decide) q1072 rfl dX2_mark_107 hf (fun i15 hf => ?_)
          refine lv_iload_n X.hx X.hb dX2_mark_110 rfl (lv_at hl 1 rfl) ?_
          refine r_iald X h dX2_mark_111 hf (fun x16 hf => ?_)
          refine lv_isub X.hx X.hb dX2_mark_112 ?_
          refine r_cSI (As := [.int 0, .int (x13 - x16)]) (rest := []) X h hf (fun res hres => wX2_greater l Γ ad _ 0 (x13 - x16) res hres) (va_cwS 2 X.hts (lw_S q1304 q1305 q84 q1306) rfl rfl rfl (by decide +kernel) ⟨Nat.le_of_ble_eq_true rfl, Nat.le_of_ble_eq_true rfl⟩) rfl ⟨hl.1, Nat.le_of_ble_eq_true rfl, Nat.le_of_ble_eq_true rfl, Nat.le_of_ble_eq_true rfl⟩ rfl dX2_mark_113 (fun x17 μ18 H locs hf h => ?_)
          exact r_ri X h hr hlk (Nat.le_of_ble_eq_true rfl) (Nat.le_of_ble_eq_true rfl) dX2_mark_116 hf
        replace hf := gif_f hf hc1
        by_cases hc2 : a2 = 3
        · replace hf := gif_t hf hc2
          refine lv_tableIn (tgt := 117) X.hx X.hb dX2_mark_58 (by rw [hc2]; decide) (by rw [hc2]; decide) (by rw [hc2]; rfl) (by decide) ?_
          clear hc2
          refine lv_aload_n X.hx X.hb dX2_mark_117 rfl (lv_at hl 0 rfl) ?_
          refine lv_iconst (v := 0) X.hx X.hb dX2_mark_118 (by decide) ?_
          refine lv_aload_n X.hx X.hb dX2_mark_119 rfl (lv_at hl 0 rfl) ?_
          refine lv_iload_n X.hx X.hb dX2_mark_120 rfl (lv_at hl 1 rfl) ?_
          refine r_cVI (As := [.int a1]) (rest := [.int 0, .ref (ad b0)]) (C := RX2) (T := TX2) (N := 36) X h hf (fun res hres => wX2_leftOf l Γ ad _ b0 a1 res hres) rfl (cwV 1 X.hts (lw_V q1307 q1309 qs51 q84 q1310) rfl rfl rfl (by decide +kernel) ⟨Nat.le_of_ble_eq_true rfl, Nat.le_of_ble_eq_true rfl⟩) rfl ⟨hl.1, Nat.le_of_ble_eq_true rfl, Nat.le_of_ble_eq_true rfl, Nat.le_of_ble_eq_true rfl⟩ rfl dX2_mark_121 (fun x19 μ20 H locs hf h => ?_)
          refine r_cVI (As := [.int 0, .int x19]) (rest := []) (C := RX2) (T := TX2) (N := 36) X h hf (fun res hres => wX2_v l Γ ad _ b0 0 x19 res hres) rfl (cwV 2 X.hts (lw_V q1289 q1291 qs49 q84 q1292) rfl rfl rfl (by decide +kernel) ⟨Nat.le_of_ble_eq_true rfl, Nat.le_of_ble_eq_true rfl⟩) rfl ⟨hl.1, Nat.le_of_ble_eq_true rfl, Nat.le_of_ble_eq_true rfl, Nat.le_of_ble_eq_true rfl⟩ rfl dX2_mark_124 (fun x21 μ22 H locs hf h => ?_)
          exact r_ri X h hr hlk (Nat.le_of_ble_eq_true rfl) (Nat.le_of_ble_eq_true rfl) dX2_mark_127 hf
        replace hf := gif_f hf hc2
        by_cases hc3 : a2 = 4
        · replace hf := gif_t hf hc3
          refine lv_tableIn (tgt := 128) X.hx X.hb dX2_mark_58 (by rw [hc3]; decide) (by rw [hc3]; decide) (by rw [hc3]; rfl) (by decide) ?_
          clear hc3
          refine lv_iload_n X.hx X.hb dX2_mark_128 rfl (lv_at hl 1 rfl) ?_
          exact r_ri X h hr hlk (Nat.le_of_ble_eq_true rfl) (Nat.le_of_ble_eq_true rfl) dX2_mark_129 hf
        replace hf := gif_f hf hc3
        have hn0 : (a2 : Int32).toInt ≠ 1 := fun h9 => hc0 (Int32.toInt_inj.mp (h9.trans (by decide)))
        have hn1 : (a2 : Int32).toInt ≠ 2 := fun h9 => hc1 (Int32.toInt_inj.mp (h9.trans (by decide)))
        have hn2 : (a2 : Int32).toInt ≠ 3 := fun h9 => hc2 (Int32.toInt_inj.mp (h9.trans (by decide)))
        have hn3 : (a2 : Int32).toInt ≠ 4 := fun h9 => hc3 (Int32.toInt_inj.mp (h9.trans (by decide)))
        refine lv_tableOut (tgt := 130) X.hx X.hb dX2_mark_58 (by omega) (by decide) ?_
        clear hn0 hn1 hn2 hn3 hc0 hc1 hc2 hc3
        refine lv_aload_n X.hx X.hb dX2_mark_130 rfl (lv_at hl 0 rfl) ?_
        refine r_getI X h (ci := 2) (k := 11) (C := RX2) (T := TX2) (N := 36) rfl in_X2 (by decide) q1070 rfl dX2_mark_131 hf (fun x23 hf => ?_)
        refine lv_aload_n X.hx X.hb dX2_mark_134 rfl (lv_at hl 0 rfl) ?_
        refine lv_iconst (v := 0) X.hx X.hb dX2_mark_135 (by decide) ?_
        refine r_cVI (As := [.int 0]) (rest := [.int x23]) (C := RX2) (T := TX2) (N := 36) X h hf (fun res hres => wX2_canSet l Γ ad _ b0 0 res hres) rfl (cwV 1 X.hts (lw_V q1311 q1313 qs52 q84 q1314) rfl rfl rfl (by decide +kernel) ⟨Nat.le_of_ble_eq_true rfl, Nat.le_of_ble_eq_true rfl⟩) rfl ⟨hl.1, Nat.le_of_ble_eq_true rfl, Nat.le_of_ble_eq_true rfl, Nat.le_of_ble_eq_true rfl⟩ rfl dX2_mark_136 (fun x24 μ25 H locs hf h => ?_)
        refine r_cSI (As := [.int x24]) (rest := [.int x23]) X h hf (fun res hres => wX2_bits l Γ ad _ x24 res hres) (va_cwS 1 X.hts (lw_S q1315 q1316 q84 q1317) rfl rfl rfl (by decide +kernel) ⟨Nat.le_of_ble_eq_true rfl, Nat.le_of_ble_eq_true rfl⟩) rfl ⟨hl.1, Nat.le_of_ble_eq_true rfl, Nat.le_of_ble_eq_true rfl, Nat.le_of_ble_eq_true rfl⟩ rfl dX2_mark_139 (fun x26 μ27 H locs hf h => ?_)
        refine lv_isub X.hx X.hb dX2_mark_142 ?_
        exact r_ri X h hr hlk (Nat.le_of_ble_eq_true rfl) (Nat.le_of_ble_eq_true rfl) dX2_mark_143 hf
      clear ej8
      refine lv_icmp_eq (tgt := 57) X.hx X.hb dX2_mark_28 (by decide) (fun hc => ?_) (fun hc => ?_)
      · replace hf := gif_t hf hc
        clear hc
        exact hj8 _ _ _ _ hf h (lv_sub hl [1, 2, 3] rfl)
      · replace hf := gif_f hf hc
        clear hc
        refine lv_iload_n X.hx X.hb dX2_mark_31 rfl (lv_at hl 3 rfl) ?_
        refine lv_iconst (v := 1) X.hx X.hb dX2_mark_32 (by decide) ?_
        refine r_jn hf (fun j29 ej29 hf => ?_)
        have hj29 : ∀  (μ28 : gM) (H : Heap) (locs : List Loc) (ls : Array Slot), j29  μ28 = some r → gWd Γ A μ0.1 ad μ28 s.heap H locs → lv_has ls 4 [(0, .ref (ad b0)), (1, .int a1), (2, .int a2), (3, .int x6)] → W p l e ({ frames := 3, cells := 0, slots := 0, locals := 68 } : Room) s m args below meth c H locs 0 0 (MQ below (gQ0 Γ ad μ0.1 r A) args s 0 0 A) (F0 m 41 ls []) := by
          intro μ28 H locs ls hf h hl
          rw [ej29] at hf
          refine lv_iload_n X.hx X.hb dX2_mark_41 rfl (lv_at hl 2 rfl) ?_
          refine lv_iconst (v := 2) X.hx X.hb dX2_mark_42 (by decide) ?_
          refine r_jn hf (fun j31 ej31 hf => ?_)
          have hj31 : ∀  (μ30 : gM) (H : Heap) (locs : List Loc) (ls : Array Slot), j31  μ30 = some r → gWd Γ A μ0.1 ad μ30 s.heap H locs → lv_has ls 4 [(0, .ref (ad b0))] → W p l e ({ frames := 3, cells := 0, slots := 0, locals := 68 } : Room) s m args below meth c H locs 0 0 (MQ below (gQ0 Γ ad μ0.1 r A) args s 0 0 A) (F0 m 51 ls []) := by
            intro μ30 H locs ls hf h hl
            rw [ej31] at hf
            refine lv_aload_n X.hx X.hb dX2_mark_51 rfl (lv_at hl 0 rfl) ?_
            refine lv_iconst (v := 3) X.hx X.hb dX2_mark_52 (by decide) ?_
            refine r_cVI (As := [.int 3]) (rest := []) (C := RX2) (T := TX2) (N := 36) X h hf (fun res hres => wX2_meets l Γ ad _ b0 3 res hres) rfl (cwV 1 X.hts (lw_V q1199 q1201 qs38 q84 q1202) rfl rfl rfl (by decide +kernel) ⟨Nat.le_of_ble_eq_true rfl, Nat.le_of_ble_eq_true rfl⟩) rfl ⟨hl.1, Nat.le_of_ble_eq_true rfl, Nat.le_of_ble_eq_true rfl, Nat.le_of_ble_eq_true rfl⟩ rfl dX2_mark_53 (fun x32 μ33 H locs hf h => ?_)
            exact r_ri X h hr hlk (Nat.le_of_ble_eq_true rfl) (Nat.le_of_ble_eq_true rfl) dX2_mark_56 hf
          clear ej31
          refine lv_icmp_ne (tgt := 51) X.hx X.hb dX2_mark_43 (by decide) (fun hc => ?_) (fun hc => ?_)
          · replace hf := gif_f hf hc
            clear hc
            exact hj31 _ _ _ _ hf h (lv_sub hl [0] rfl)
          · replace hf := gif_t hf hc
            clear hc
            refine lv_iload_n X.hx X.hb dX2_mark_46 rfl (lv_at hl 3 rfl) ?_
            refine lv_iconst (v := 5) X.hx X.hb dX2_mark_47 (by decide) ?_
            refine lv_icmp_eq (tgt := 57) X.hx X.hb dX2_mark_48 (by decide) (fun hc => ?_) (fun hc => ?_)
            · replace hf := gif_t hf hc
              clear hc
              exact hj8 _ _ _ _ hf h (lv_sub hl [0, 1, 2] rfl)
            · replace hf := gif_f hf hc
              clear hc
              exact hj31 _ _ _ _ hf h (lv_sub hl [0] rfl)
        clear ej29
        refine lv_icmp_ne (tgt := 41) X.hx X.hb dX2_mark_33 (by decide) (fun hc => ?_) (fun hc => ?_)
        · replace hf := gif_f hf hc
          clear hc
          exact hj29 _ _ _ _ hf h (lv_sub hl [1, 2, 3, 0] rfl)
        · replace hf := gif_t hf hc
          clear hc
          refine lv_iload_n X.hx X.hb dX2_mark_36 rfl (lv_at hl 0 rfl) ?_
          refine lv_iconst (v := 4) X.hx X.hb dX2_mark_37 (by decide) ?_
          refine lv_icmp_eq (tgt := 57) X.hx X.hb dX2_mark_38 (by decide) (fun hc => ?_) (fun hc => ?_)
          · replace hf := gif_t hf hc
            clear hc
            exact hj8 _ _ _ _ hf h (lv_sub hl [1, 2, 3] rfl)
          · replace hf := gif_f hf hc
            clear hc
            exact hj29 _ _ _ _ hf h (lv_sub hl [1, 2, 3, 0] rfl)
    · replace hf := gif_t hf hc
      clear hc
      refine lv_iconst (v := (-1)) X.hx X.hb dX2_mark_17 (by decide) ?_
      exact r_ri X h hr hlk (Nat.le_of_ble_eq_true rfl) (Nat.le_of_ble_eq_true rfl) dX2_mark_18 hf
/-! X2_mean -/
def fX2_mean_L44 (b0 : Nat) (a1 : Int32) (kx72 : Int64 → gM → gR) : Nat → Int64 → Int32 → gM → gR
  | 0, _, _, _ => none
  | n10 + 1, x7, x8, μ9 => gP (gfld μ9 b0 2 5) fun i11 => gaI μ9 0 i11 a1 fun x12 => if x12 ≤ x8 then (kx72 x7 μ9) else (gis μ9 b0 2 <| cI (fX2_rowAt μ9 b0 a1 x8) fun x13 μ14 => gnm ((x7 + ((x13 : Int32).toInt64))) fun x15 => gnm (x8 + 1) fun x16 => fX2_mean_L44 b0 a1 kx72 n10 x15 x16 μ14)
set_option maxHeartbeats 4000000 in
theorem wX2_mean_L44 {p : Program} {e : Env} {s : State} {m : MethodId} {args : Array Value} {below : List Frame} {meth : Method} {c : Code} {Γ : gG} {A : Nat → Prop} {nz : Nat} {ad : Nat → Nat} {r : Option Value × gM} (l : Launch) (b0 : Nat) (a1 : Int32) (kx72 : Int64 → gM → gR) (X : gX p m c cX2_mean 5 s args "SandPianoModel" Γ A) (hr : meth.sig.returnType = (some .int)) (hlk : meth.locks = false) (hk72 : ∀ (x17 : Int64) (μ : gM) (H : Heap) (locs : List Loc) (ls : Array Slot), kx72 x17 μ = some r → gWd Γ A nz ad μ s.heap H locs → lv_has ls 5 [(0, .ref (ad b0)), (1, .int a1), (2, .long x17)] → W p l e ({ frames := 2, cells := 0, slots := 0, locals := 42 } : Room) s m args below meth c H locs 0 0 (MQ below (gQ0 Γ ad nz r A) args s 0 0 A) (F0 m 72 ls [])) : ∀ (n10 : Nat) (x7 : Int64) (x8 : Int32) (μ9 : gM) (H : Heap) (locs : List Loc) (ls : Array Slot), fX2_mean_L44 b0 a1 kx72 n10 x7 x8 μ9 = some r → gWd Γ A nz ad μ9 s.heap H locs → lv_has ls 5 [(0, .ref (ad b0)), (1, .int a1), (2, .long x7), (4, .int x8)] → W p l e ({ frames := 2, cells := 0, slots := 0, locals := 42 } : Room) s m args below meth c H locs 0 0 (MQ below (gQ0 Γ ad nz r A) args s 0 0 A) (F0 m 44 ls []) := by
  intro n10
  induction n10 with
  | zero =>
    intro x7 x8 μ9 H locs ls hf h hl
    have hf : (none : gR) = some r := hf
    cases hf
  | succ n10 ih =>
    intro x7 x8 μ9 H locs ls hf h hl
    rw [fX2_mean_L44] at hf
    refine lv_iload X.hx X.hb dX2_mean_44 (lv_at hl 3 rfl) ?_
    refine lv_aload_n X.hx X.hb dX2_mean_46 rfl (lv_at hl 0 rfl) ?_
    refine r_getP X h (ci := 2) (k := 5) (C := RX2) (T := TX2) (N := 36) rfl in_X2 (by decide) q1064 rfl dX2_mean_47 hf (fun i11 hf => ?_)
    refine lv_iload_n X.hx X.hb dX2_mean_50 rfl (lv_at hl 1 rfl) ?_
    refine r_iald X h dX2_mean_51 hf (fun x12 hf => ?_)
    refine lv_icmp_ge (tgt := 72) X.hx X.hb dX2_mean_52 (by decide) (fun hc => ?_) (fun hc => ?_)
    · replace hf := gif_t hf hc
      clear hc
      exact hk72 _ _ _ _ _ hf h (lv_sub hl [0, 1, 2] rfl)
    · replace hf := gif_f hf hc
      clear hc
      refine lv_lload_n X.hx X.hb dX2_mean_55 rfl (lv_at hl 2 rfl) ?_
      refine lv_aload_n X.hx X.hb dX2_mean_56 rfl (lv_at hl 0 rfl) ?_
      refine lv_iload_n X.hx X.hb dX2_mean_57 rfl (lv_at hl 1 rfl) ?_
      refine lv_iload X.hx X.hb dX2_mean_58 (lv_at hl 3 rfl) ?_
      refine r_cVI (As := [.int a1, .int x8]) (rest := [.long x7]) (C := RX2) (T := TX2) (N := 36) X h hf (fun res hres => wX2_rowAt l Γ ad _ b0 a1 x8 res hres) rfl (cwV 2 X.hts (lw_V q1207 q1209 qs39 q84 q1210) rfl rfl rfl (by decide +kernel) ⟨Nat.le_of_ble_eq_true rfl, Nat.le_of_ble_eq_true rfl⟩) rfl ⟨hl.1, Nat.le_of_ble_eq_true rfl, Nat.le_of_ble_eq_true rfl, Nat.le_of_ble_eq_true rfl⟩ rfl dX2_mean_60 (fun x13 μ14 H locs hf h => ?_)
      refine lv_i2l X.hx X.hb dX2_mean_63 rfl ?_
      refine lv_ladd X.hx X.hb dX2_mean_64 ?_
      refine r_nmJ hf (fun x15 hf => ?_)
      refine lv_lstore_n (lv' := [(2, .long x15), (0, .ref (ad b0)), (1, .int a1), (4, .int x8)]) X.hx X.hb dX2_mean_65 rfl hl (by decide) rfl (fun ls hl => ?_)
      refine r_nmk hf (fun x16 ex hf => ?_)
      refine lv_iinc (v := x16) (lv' := [(4, .int x16), (2, .long x15), (0, .ref (ad b0)), (1, .int a1)]) X.hx X.hb dX2_mean_66 hl (k := 3) rfl (by rw [ex]; rfl) (by decide) rfl (fun ls hl => ?_)
      clear ex
      refine lv_goto (tgt := 44) X.hx X.hb dX2_mean_69 (by decide) ?_
      exact ih _ _ _ _ _ _ hf h (lv_sub hl [2, 3, 1, 0] rfl)
def fX2_mean (μ0 : gM) (b0 : Nat) (a1 : Int32) : gR := cI (fX2_isRow μ0 a1) fun x1 μ2 => if x1 = 0 then (some (some (.int (-1)), μ2)) else (gP (gfld μ2 b0 2 5) fun i3 => gaI μ2 0 i3 a1 fun x4 => if 0 ≤ x4 then (gP (gfld μ2 b0 2 5) fun i5 => gaI μ2 0 i5 a1 fun x6 => if x6 = 0 then (gis μ2 b0 2 <| cI (fX2_meets μ2 b0 4) fun x24 μ25 => some (some (.int x24), μ25)) else (fX2_mean_L44 b0 a1 (fun (x18 : Int64) (μ19 : gM) => gP (gfld μ19 b0 2 5) fun i20 => gaI μ19 0 i20 a1 fun x21 => gne ((x21 : Int32).toInt64) 0 <| gis μ19 b0 2 <| cI (fX2_tells μ19 b0 (((x18 / ((x21 : Int32).toInt64)) : Int64).toInt32) 1) fun x22 μ23 => some (some (.int x22), μ23)) 10000 0 0 μ2)) else (gis μ2 b0 2 <| cI (fX2_meets μ2 b0 1) fun x26 μ27 => some (some (.int x26), μ27)))
set_option maxHeartbeats 4000000 in
theorem wX2_mean (l : Launch) (Γ : gG) (ad : Nat → Nat) (μ0 : gM) (b0 : Nat) (a1 : Int32) (r : Option Value × gM) (hf : fX2_mean μ0 b0 a1 = some r) : gMt0 l Γ yX2_mean (ws_ yX2_mean cX2_mean 5 (some .int)) ({ frames := 2, cells := 0, slots := 0, locals := 42 } : Room) 0 0 ad μ0 [.ref (ad b0), .int a1] r := by
  intro sz
  refine g_start (maxL := 5) (ret := (some .int)) (by decide) rfl g_all (Nat.le_of_ble_eq_true rfl) ?_
  intro p e s m below meth c ls hr hlk hnm X h hl
  generalize gA ad μ0 sz = A at X h ⊢
  generalize ([.ref (ad b0), .int a1] : List Value).toArray = args at X ⊢
  have X : gX p m c cX2_mean 5 s args "SandPianoModel" Γ A := X
  have hl : lv_has ls 5 [(0, .ref (ad b0)), (1, .int a1)] := hl
  show W p l e ({ frames := 2, cells := 0, slots := 0, locals := 42 } : Room) s m args below meth c s.heap [] 0 0 (MQ below (gQ0 Γ ad μ0.1 r A) args s 0 0 A) (F0 m 0 ls [])
  unfold fX2_mean at hf
  refine lv_iload_n X.hx X.hb dX2_mean_0 rfl (lv_at hl 1 rfl) ?_
  refine r_cSI (As := [.int a1]) (rest := []) X h hf (fun res hres => wX2_isRow l Γ ad _ a1 res hres) (va_cwS 1 X.hts (lw_S q1196 q1197 q84 q1198) rfl rfl rfl (by decide +kernel) ⟨Nat.le_of_ble_eq_true rfl, Nat.le_of_ble_eq_true rfl⟩) rfl ⟨hl.1, Nat.le_of_ble_eq_true rfl, Nat.le_of_ble_eq_true rfl, Nat.le_of_ble_eq_true rfl⟩ rfl dX2_mean_1 (fun x1 μ2 H locs hf h => ?_)
  refine lv_if_ne (tgt := 9) X.hx X.hb dX2_mean_4 (by decide) (fun hc => ?_) (fun hc => ?_)
  · replace hf := gif_f hf hc
    clear hc
    refine lv_aload_n X.hx X.hb dX2_mean_9 rfl (lv_at hl 0 rfl) ?_
    refine r_getP X h (ci := 2) (k := 5) (C := RX2) (T := TX2) (N := 36) rfl in_X2 (by decide) q1064 rfl dX2_mean_10 hf (fun i3 hf => ?_)
    refine lv_iload_n X.hx X.hb dX2_mean_13 rfl (lv_at hl 1 rfl) ?_
    refine r_iald X h dX2_mean_14 hf (fun x4 hf => ?_)
    refine lv_if_ge (tgt := 24) X.hx X.hb dX2_mean_15 (by decide) (fun hc => ?_) (fun hc => ?_)
    · replace hf := gif_t hf hc
      clear hc
      refine lv_aload_n X.hx X.hb dX2_mean_24 rfl (lv_at hl 0 rfl) ?_
      refine r_getP X h (ci := 2) (k := 5) (C := RX2) (T := TX2) (N := 36) rfl in_X2 (by decide) q1064 rfl dX2_mean_25 hf (fun i5 hf => ?_)
      refine lv_iload_n X.hx X.hb dX2_mean_28 rfl (lv_at hl 1 rfl) ?_
      refine r_iald X h dX2_mean_29 hf (fun x6 hf => ?_)
      refine lv_if_ne (tgt := 39) X.hx X.hb dX2_mean_30 (by decide) (fun hc => ?_) (fun hc => ?_)
      · replace hf := gif_f hf hc
        clear hc
        refine lv_lconst (v := 0) X.hx X.hb dX2_mean_39 (by decide) ?_
        refine lv_lstore_n (lv' := [(2, .long 0), (0, .ref (ad b0)), (1, .int a1)]) X.hx X.hb dX2_mean_40 rfl hl (by decide) rfl (fun ls hl => ?_)
        refine lv_iconst (v := 0) X.hx X.hb dX2_mean_41 (by decide) ?_
        refine lv_istore (lv' := [(4, .int 0), (2, .long 0), (0, .ref (ad b0)), (1, .int a1)]) X.hx X.hb dX2_mean_42 hl (by decide) rfl (fun ls hl => ?_)
        refine wX2_mean_L44 l b0 a1 _ X hr hlk (fun x18 μ19 H locs ls hf h hl => ?_) 10000 _ _ _ _ _ _ hf h (lv_sub hl [2, 3, 1, 0] rfl)
        refine lv_aload_n X.hx X.hb dX2_mean_72 rfl (lv_at hl 0 rfl) ?_
        refine lv_lload_n X.hx X.hb dX2_mean_73 rfl (lv_at hl 2 rfl) ?_
        refine lv_aload_n X.hx X.hb dX2_mean_74 rfl (lv_at hl 0 rfl) ?_
        refine r_getP X h (ci := 2) (k := 5) (C := RX2) (T := TX2) (N := 36) rfl in_X2 (by decide) q1064 rfl dX2_mean_75 hf (fun i20 hf => ?_)
        refine lv_iload_n X.hx X.hb dX2_mean_78 rfl (lv_at hl 1 rfl) ?_
        refine r_iald X h dX2_mean_79 hf (fun x21 hf => ?_)
        refine lv_i2l X.hx X.hb dX2_mean_80 rfl ?_
        obtain ⟨hne, hf⟩ := gne_some hf
        refine lv_ldiv X.hx X.hb dX2_mean_81 hne ?_
        refine lv_l2i X.hx X.hb dX2_mean_82 rfl ?_
        refine lv_iconst (v := 1) X.hx X.hb dX2_mean_83 (by decide) ?_
        refine r_cVI (As := [.int (((x18 / ((x21 : Int32).toInt64)) : Int64).toInt32), .int 1]) (rest := []) (C := RX2) (T := TX2) (N := 36) X h hf (fun res hres => wX2_tells l Γ ad _ b0 (((x18 / ((x21 : Int32).toInt64)) : Int64).toInt32) 1 res hres) rfl (cwV 2 X.hts (lw_V q1211 q1213 qs40 q84 q1214) rfl rfl rfl (by decide +kernel) ⟨Nat.le_of_ble_eq_true rfl, Nat.le_of_ble_eq_true rfl⟩) rfl ⟨hl.1, Nat.le_of_ble_eq_true rfl, Nat.le_of_ble_eq_true rfl, Nat.le_of_ble_eq_true rfl⟩ rfl dX2_mean_84 (fun x22 μ23 H locs hf h => ?_)
        exact r_ri X h hr hlk (Nat.le_of_ble_eq_true rfl) (Nat.le_of_ble_eq_true rfl) dX2_mean_87 hf
      · replace hf := gif_t hf hc
        clear hc
        refine lv_aload_n X.hx X.hb dX2_mean_33 rfl (lv_at hl 0 rfl) ?_
        refine lv_iconst (v := 4) X.hx X.hb dX2_mean_34 (by decide) ?_
        refine r_cVI (As := [.int 4]) (rest := []) (C := RX2) (T := TX2) (N := 36) X h hf (fun res hres => wX2_meets l Γ ad _ b0 4 res hres) rfl (cwV 1 X.hts (lw_V q1199 q1201 qs38 q84 q1202) rfl rfl rfl (by decide +kernel) ⟨Nat.le_of_ble_eq_true rfl, Nat.le_of_ble_eq_true rfl⟩) rfl ⟨hl.1, Nat.le_of_ble_eq_true rfl, Nat.le_of_ble_eq_true rfl, Nat.le_of_ble_eq_true rfl⟩ rfl dX2_mean_35 (fun x24 μ25 H locs hf h => ?_)
        exact r_ri X h hr hlk (Nat.le_of_ble_eq_true rfl) (Nat.le_of_ble_eq_true rfl) dX2_mean_38 hf
    · replace hf := gif_f hf hc
      clear hc
      refine lv_aload_n X.hx X.hb dX2_mean_18 rfl (lv_at hl 0 rfl) ?_
      refine lv_iconst (v := 1) X.hx X.hb dX2_mean_19 (by decide) ?_
      refine r_cVI (As := [.int 1]) (rest := []) (C := RX2) (T := TX2) (N := 36) X h hf (fun res hres => wX2_meets l Γ ad _ b0 1 res hres) rfl (cwV 1 X.hts (lw_V q1199 q1201 qs38 q84 q1202) rfl rfl rfl (by decide +kernel) ⟨Nat.le_of_ble_eq_true rfl, Nat.le_of_ble_eq_true rfl⟩) rfl ⟨hl.1, Nat.le_of_ble_eq_true rfl, Nat.le_of_ble_eq_true rfl, Nat.le_of_ble_eq_true rfl⟩ rfl dX2_mean_20 (fun x26 μ27 H locs hf h => ?_)
      exact r_ri X h hr hlk (Nat.le_of_ble_eq_true rfl) (Nat.le_of_ble_eq_true rfl) dX2_mean_23 hf
  · replace hf := gif_t hf hc
    clear hc
    refine lv_iconst (v := (-1)) X.hx X.hb dX2_mean_7 (by decide) ?_
    exact r_ri X h hr hlk (Nat.le_of_ble_eq_true rfl) (Nat.le_of_ble_eq_true rfl) dX2_mean_8 hf
