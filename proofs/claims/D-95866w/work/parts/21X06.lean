set_option maxRecDepth 100000
/-! X0_mixPiano -/
def fX0_mixPiano_L20 (b0 : Nat) (x3 : Int32) (kx41 : gM → gR) : Nat → Int32 → gM → gR
  | 0, _, _ => none
  | n9 + 1, x7, μ8 => if 4 < x7 then (kx41 μ8) else (gis μ8 b0 0 <| cI (fX0_keyTells μ8 b0 x3 x7) fun x10 μ11 => gis μ11 b0 0 <| cV (fX0_mix μ11 b0 x10) fun μ12 => gnm (x7 + 1) fun x13 => fX0_mixPiano_L20 b0 x3 kx41 n9 x13 μ12)
set_option maxHeartbeats 4000000 in
theorem wX0_mixPiano_L20 {p : Program} {e : Env} {s : State} {m : MethodId} {args : Array Value} {below : List Frame} {meth : Method} {c : Code} {Γ : gG} {A : Nat → Prop} {nz : Nat} {ad : Nat → Nat} {r : Option Value × gM} (l : Launch) (b0 : Nat) (x3 : Int32) (kx41 : gM → gR) (X : gX p m c cX0_mixPiano 5 s args "SandPiano" Γ A) (hr : meth.sig.returnType = none) (hlk : meth.locks = false) (hk41 : ∀  (μ : gM) (H : Heap) (locs : List Loc) (ls : Array Slot), kx41  μ = some r → gWd Γ A nz ad μ s.heap H locs → lv_has ls 5 [(0, .ref (ad b0)), (1, .int x3)] → W p l e ({ frames := 4, cells := 0, slots := 0, locals := 84 } : Room) s m args below meth c H locs 0 0 (MQ below (gQ0 Γ ad nz r A) args s 0 0 A) (F0 m 41 ls [])) : ∀ (n9 : Nat) (x7 : Int32) (μ8 : gM) (H : Heap) (locs : List Loc) (ls : Array Slot), fX0_mixPiano_L20 b0 x3 kx41 n9 x7 μ8 = some r → gWd Γ A nz ad μ8 s.heap H locs → lv_has ls 5 [(0, .ref (ad b0)), (1, .int x3), (2, .int x7)] → W p l e ({ frames := 4, cells := 0, slots := 0, locals := 84 } : Room) s m args below meth c H locs 0 0 (MQ below (gQ0 Γ ad nz r A) args s 0 0 A) (F0 m 20 ls []) := by
  intro n9
  induction n9 with
  | zero =>
    intro x7 μ8 H locs ls hf h hl
    have hf : (none : gR) = some r := hf
    cases hf
  | succ n9 ih =>
    intro x7 μ8 H locs ls hf h hl
    rw [fX0_mixPiano_L20] at hf
    refine lv_iload_n X.hx X.hb dX0_mixPiano_20 rfl (lv_at hl 2 rfl) ?_
    refine lv_iconst (v := 4) X.hx X.hb dX0_mixPiano_21 (by decide) ?_
    refine lv_icmp_gt (tgt := 41) X.hx X.hb dX0_mixPiano_22 (by decide) (fun hc => ?_) (fun hc => ?_)
    · replace hf := gif_t hf hc
      clear hc
      exact hk41 _ _ _ _ hf h (lv_sub hl [0, 1] rfl)
    · replace hf := gif_f hf hc
      clear hc
      refine lv_aload_n X.hx X.hb dX0_mixPiano_25 rfl (lv_at hl 0 rfl) ?_
      refine lv_aload_n X.hx X.hb dX0_mixPiano_26 rfl (lv_at hl 0 rfl) ?_
      refine lv_iload_n X.hx X.hb dX0_mixPiano_27 rfl (lv_at hl 1 rfl) ?_
      refine lv_iload_n X.hx X.hb dX0_mixPiano_28 rfl (lv_at hl 2 rfl) ?_
      refine r_cVI (As := [.int x3, .int x7]) (rest := [.ref (ad b0)]) (C := RX0) (T := TX0) (N := 36) X h hf (fun res hres => wX0_keyTells l Γ ad _ b0 x3 x7 res hres) rfl (cwV 2 X.hts (lw_V q553 q555 qs10 q82 q556) rfl rfl rfl (by decide +kernel) ⟨Nat.le_of_ble_eq_true rfl, Nat.le_of_ble_eq_true rfl⟩) rfl ⟨hl.1, Nat.le_of_ble_eq_true rfl, Nat.le_of_ble_eq_true rfl, Nat.le_of_ble_eq_true rfl⟩ rfl dX0_mixPiano_29 (fun x10 μ11 H locs hf h => ?_)
      refine r_cVV (As := [.int x10]) (rest := []) (C := RX0) (T := TX0) (N := 36) X h hf (fun res hres => wX0_mix l Γ ad _ b0 x10 res hres) rfl (cwV 1 X.hts (lw_V q1044 q1046 qs36 q82 q1047) rfl rfl rfl (by decide +kernel) ⟨Nat.le_of_ble_eq_true rfl, Nat.le_of_ble_eq_true rfl⟩) rfl ⟨hl.1, Nat.le_of_ble_eq_true rfl, Nat.le_of_ble_eq_true rfl, Nat.le_of_ble_eq_true rfl⟩ rfl dX0_mixPiano_32 (fun μ12 H locs hf h => ?_)
      refine r_nmk hf (fun x13 ex hf => ?_)
      refine lv_iinc (v := x13) (lv' := [(2, .int x13), (0, .ref (ad b0)), (1, .int x3)]) X.hx X.hb dX0_mixPiano_35 hl (k := 2) rfl (by rw [ex]; rfl) (by decide) rfl (fun ls hl => ?_)
      clear ex
      refine lv_goto (tgt := 20) X.hx X.hb dX0_mixPiano_38 (by decide) ?_
      exact ih _ _ _ _ _ hf h (lv_sub hl [1, 2, 0] rfl)
def fX0_mixPiano_L10 (b0 : Nat) (kx47 : gM → gR) : Nat → Int32 → gM → gR
  | 0, _, _ => none
  | n5 + 1, x3, μ4 => gI (gfld μ4 b0 0 7) fun x6 => if x6 ≤ x3 then (kx47 μ4) else (fX0_mixPiano_L20 b0 x3 (fun (μ14 : gM) => gnm (x3 + 1) fun x15 => fX0_mixPiano_L10 b0 kx47 n5 x15 μ14) 10000 0 μ4)
set_option maxHeartbeats 4000000 in
theorem wX0_mixPiano_L10 {p : Program} {e : Env} {s : State} {m : MethodId} {args : Array Value} {below : List Frame} {meth : Method} {c : Code} {Γ : gG} {A : Nat → Prop} {nz : Nat} {ad : Nat → Nat} {r : Option Value × gM} (l : Launch) (b0 : Nat) (kx47 : gM → gR) (X : gX p m c cX0_mixPiano 5 s args "SandPiano" Γ A) (hr : meth.sig.returnType = none) (hlk : meth.locks = false) (hk47 : ∀  (μ : gM) (H : Heap) (locs : List Loc) (ls : Array Slot), kx47  μ = some r → gWd Γ A nz ad μ s.heap H locs → lv_has ls 5 [(0, .ref (ad b0))] → W p l e ({ frames := 4, cells := 0, slots := 0, locals := 84 } : Room) s m args below meth c H locs 0 0 (MQ below (gQ0 Γ ad nz r A) args s 0 0 A) (F0 m 47 ls [])) : ∀ (n5 : Nat) (x3 : Int32) (μ4 : gM) (H : Heap) (locs : List Loc) (ls : Array Slot), fX0_mixPiano_L10 b0 kx47 n5 x3 μ4 = some r → gWd Γ A nz ad μ4 s.heap H locs → lv_has ls 5 [(0, .ref (ad b0)), (1, .int x3)] → W p l e ({ frames := 4, cells := 0, slots := 0, locals := 84 } : Room) s m args below meth c H locs 0 0 (MQ below (gQ0 Γ ad nz r A) args s 0 0 A) (F0 m 10 ls []) := by
  intro n5
  induction n5 with
  | zero =>
    intro x3 μ4 H locs ls hf h hl
    have hf : (none : gR) = some r := hf
    cases hf
  | succ n5 ih =>
    intro x3 μ4 H locs ls hf h hl
    rw [fX0_mixPiano_L10] at hf
    refine lv_iload_n X.hx X.hb dX0_mixPiano_10 rfl (lv_at hl 1 rfl) ?_
    refine lv_aload_n X.hx X.hb dX0_mixPiano_11 rfl (lv_at hl 0 rfl) ?_
    refine r_getI X h (ci := 0) (k := 7) (C := RX0) (T := TX0) (N := 36) rfl in_X0 (by decide) q149 rfl dX0_mixPiano_12 hf (fun x6 hf => ?_)
    refine lv_icmp_ge (tgt := 47) X.hx X.hb dX0_mixPiano_15 (by decide) (fun hc => ?_) (fun hc => ?_)
    · replace hf := gif_t hf hc
      clear hc
      exact hk47 _ _ _ _ hf h (lv_sub hl [0] rfl)
    · replace hf := gif_f hf hc
      clear hc
      refine lv_iconst (v := 0) X.hx X.hb dX0_mixPiano_18 (by decide) ?_
      refine lv_istore_n (lv' := [(2, .int 0), (0, .ref (ad b0)), (1, .int x3)]) X.hx X.hb dX0_mixPiano_19 rfl hl (by decide) rfl (fun ls hl => ?_)
      refine wX0_mixPiano_L20 l b0 x3 _ X hr hlk (fun μ14 H locs ls hf h hl => ?_) 10000 _ _ _ _ _ hf h (lv_sub hl [1, 2, 0] rfl)
      refine r_nmk hf (fun x15 ex hf => ?_)
      refine lv_iinc (v := x15) (lv' := [(1, .int x15), (0, .ref (ad b0))]) X.hx X.hb dX0_mixPiano_41 hl (k := 1) rfl (by rw [ex]; rfl) (by decide) rfl (fun ls hl => ?_)
      clear ex
      refine lv_goto (tgt := 10) X.hx X.hb dX0_mixPiano_44 (by decide) ?_
      exact ih _ _ _ _ _ hf h (lv_sub hl [1, 0] rfl)
def fX0_mixPiano_L57 (b0 : Nat) (i17 : Nat) (x18 : Int32) : Nat → Int32 → gM → gR
  | 0, _, _ => none
  | n21 + 1, x19, μ20 => if x18 ≤ x19 then (some (none, μ20)) else (gaQ μ20 6 i17 x19 fun o22 => gjn (fun (x23 : Int32) (μ24 : gM) => gis μ24 b0 0 <| cV (fX0_mix μ24 b0 x23) fun μ26 => gnm (x19 + 1) fun x27 => fX0_mixPiano_L57 b0 i17 x18 n21 x27 μ26) fun j25 => gnu o22 (j25 (-1) μ20) (gnn o22 fun i28 => gI (gfld μ20 i28 9 2) fun x29 => j25 x29 μ20))
set_option maxHeartbeats 4000000 in
theorem wX0_mixPiano_L57 {p : Program} {e : Env} {s : State} {m : MethodId} {args : Array Value} {below : List Frame} {meth : Method} {c : Code} {Γ : gG} {A : Nat → Prop} {nz : Nat} {ad : Nat → Nat} {r : Option Value × gM} (l : Launch) (b0 : Nat) (i17 : Nat) (x18 : Int32) (X : gX p m c cX0_mixPiano 5 s args "SandPiano" Γ A) (hr : meth.sig.returnType = none) (hlk : meth.locks = false) : ∀ (n21 : Nat) (x19 : Int32) (μ20 : gM) (H : Heap) (locs : List Loc) (ls : Array Slot), fX0_mixPiano_L57 b0 i17 x18 n21 x19 μ20 = some r → gWd Γ A nz ad μ20 s.heap H locs → lv_has ls 5 [(0, .ref (ad b0)), (1, .ref (ad i17)), (2, .int x18), (3, .int x19)] → W p l e ({ frames := 4, cells := 0, slots := 0, locals := 84 } : Room) s m args below meth c H locs 0 0 (MQ below (gQ0 Γ ad nz r A) args s 0 0 A) (F0 m 57 ls []) := by
  intro n21
  induction n21 with
  | zero =>
    intro x19 μ20 H locs ls hf h hl
    have hf : (none : gR) = some r := hf
    cases hf
  | succ n21 ih =>
    intro x19 μ20 H locs ls hf h hl
    rw [fX0_mixPiano_L57] at hf
    refine lv_iload_n X.hx X.hb dX0_mixPiano_57 rfl (lv_at hl 3 rfl) ?_
    refine lv_iload_n X.hx X.hb dX0_mixPiano_58 rfl (lv_at hl 2 rfl) ?_
    refine lv_icmp_ge (tgt := 91) X.hx X.hb dX0_mixPiano_59 (by decide) (fun hc => ?_) (fun hc => ?_)
    · replace hf := gif_t hf hc
      clear hc
      exact r_rv X h hr hlk (Nat.le_of_ble_eq_true rfl) (Nat.le_of_ble_eq_true rfl) dX0_mixPiano_91 hf
    · replace hf := gif_f hf hc
      clear hc
      refine lv_aload_n X.hx X.hb dX0_mixPiano_62 rfl (lv_at hl 1 rfl) ?_
      refine lv_iload_n X.hx X.hb dX0_mixPiano_63 rfl (lv_at hl 3 rfl) ?_
      refine r_aald X h (t := 6) rfl rfl dX0_mixPiano_64 hf (fun o22 hf => ?_)
      refine r_astoreQ (lv' := [(4, va_rf ((o22).map ad)), (0, .ref (ad b0)), (1, .ref (ad i17)), (2, .int x18), (3, .int x19)]) X.hx X.hb dX0_mixPiano_65 hl (by decide) rfl (fun ls hl => ?_)
      refine lv_aload_n X.hx X.hb dX0_mixPiano_67 rfl (lv_at hl 1 rfl) ?_
      refine r_aloadQ X.hx X.hb dX0_mixPiano_68 (lv_at hl 0 rfl) ?_
      refine r_jn hf (fun j25 ej25 hf => ?_)
      have hj25 : ∀ (x23 : Int32) (μ24 : gM) (H : Heap) (locs : List Loc) (ls : Array Slot), j25 x23 μ24 = some r → gWd Γ A nz ad μ24 s.heap H locs → lv_has ls 5 [(0, .ref (ad b0)), (1, .ref (ad i17)), (2, .int x18), (3, .int x19)] → W p l e ({ frames := 4, cells := 0, slots := 0, locals := 84 } : Room) s m args below meth c H locs 0 0 (MQ below (gQ0 Γ ad nz r A) args s 0 0 A) (F0 m 82 ls [.int x23, .ref (ad b0)]) := by
        intro x23 μ24 H locs ls hf h hl
        rw [ej25] at hf
        refine r_cVV (As := [.int x23]) (rest := []) (C := RX0) (T := TX0) (N := 36) X h hf (fun res hres => wX0_mix l Γ ad _ b0 x23 res hres) rfl (cwV 1 X.hts (lw_V q1044 q1046 qs36 q82 q1047) rfl rfl rfl (by decide +kernel) ⟨Nat.le_of_ble_eq_true rfl, Nat.le_of_ble_eq_true rfl⟩) rfl ⟨hl.1, Nat.le_of_ble_eq_true rfl, Nat.le_of_ble_eq_true rfl, Nat.le_of_ble_eq_true rfl⟩ rfl dX0_mixPiano_82 (fun μ26 H locs hf h => ?_)
        refine r_nmk hf (fun x27 ex hf => ?_)
        refine lv_iinc (v := x27) (lv' := [(3, .int x27), (0, .ref (ad b0)), (1, .ref (ad i17)), (2, .int x18)]) X.hx X.hb dX0_mixPiano_85 hl (k := 3) rfl (by rw [ex]; rfl) (by decide) rfl (fun ls hl => ?_)
        clear ex
        refine lv_goto (tgt := 57) X.hx X.hb dX0_mixPiano_88 (by decide) ?_
        exact ih _ _ _ _ _ hf h (lv_sub hl [1, 2, 3, 0] rfl)
      clear ej25
      refine r_ifnn (tgt := 77) X.hx X.hb dX0_mixPiano_70 (by decide) hf (fun hf => ?_) (fun hf => ?_)
      · refine r_aloadQ X.hx X.hb dX0_mixPiano_77 (lv_at hl 0 rfl) ?_
        refine r_nn hf (fun i28 hf => ?_)
        refine r_getNI X h (ci := 9) (k := 2) (C := RX9) (T := TX9) (N := 4) rfl in_X9 (by decide) 12 rfl rfl dX0_mixPiano_79 hf (fun x29 hf => ?_)
        exact hj25 _ _ _ _ _ hf h (lv_sub hl [1, 2, 3, 4] rfl)
      · refine lv_iconst (v := (-1)) X.hx X.hb dX0_mixPiano_73 (by decide) ?_
        refine lv_goto (tgt := 82) X.hx X.hb dX0_mixPiano_74 (by decide) ?_
        exact hj25 _ _ _ _ _ hf h (lv_sub hl [1, 2, 3, 4] rfl)
def fX0_mixPiano (μ0 : gM) (b0 : Nat) : gR := gI (gfld μ0 b0 0 8) fun x1 => gis μ0 b0 0 <| cV (fX0_mix μ0 b0 x1) fun μ2 => fX0_mixPiano_L10 b0 (fun (μ16 : gM) => gP (gfld μ16 b0 0 21) fun i17 => glen μ16 6 i17 fun x18 => fX0_mixPiano_L57 b0 i17 x18 10000 0 μ16) 10000 0 μ2
set_option maxHeartbeats 4000000 in
theorem wX0_mixPiano (l : Launch) (Γ : gG) (ad : Nat → Nat) (μ0 : gM) (b0 : Nat) (r : Option Value × gM) (hf : fX0_mixPiano μ0 b0 = some r) : gMt0 l Γ yX0_mixPiano (ws_ yX0_mixPiano cX0_mixPiano 5 none) ({ frames := 4, cells := 0, slots := 0, locals := 84 } : Room) 0 0 ad μ0 [.ref (ad b0)] r := by
  intro sz
  refine g_start (maxL := 5) (ret := none) (by decide) rfl g_all (Nat.le_of_ble_eq_true rfl) ?_
  intro p e s m below meth c ls hr hlk hnm X h hl
  generalize gA ad μ0 sz = A at X h ⊢
  generalize ([.ref (ad b0)] : List Value).toArray = args at X ⊢
  have X : gX p m c cX0_mixPiano 5 s args "SandPiano" Γ A := X
  have hl : lv_has ls 5 [(0, .ref (ad b0))] := hl
  show W p l e ({ frames := 4, cells := 0, slots := 0, locals := 84 } : Room) s m args below meth c s.heap [] 0 0 (MQ below (gQ0 Γ ad μ0.1 r A) args s 0 0 A) (F0 m 0 ls [])
  unfold fX0_mixPiano at hf
  refine lv_aload_n X.hx X.hb dX0_mixPiano_0 rfl (lv_at hl 0 rfl) ?_
  refine lv_aload_n X.hx X.hb dX0_mixPiano_1 rfl (lv_at hl 0 rfl) ?_
  refine r_getI X h (ci := 0) (k := 8) (C := RX0) (T := TX0) (N := 36) rfl in_X0 (by decide) q150 rfl dX0_mixPiano_2 hf (fun x1 hf => ?_)
  refine r_cVV (As := [.int x1]) (rest := []) (C := RX0) (T := TX0) (N := 36) X h hf (fun res hres => wX0_mix l Γ ad _ b0 x1 res hres) rfl (cwV 1 X.hts (lw_V q1044 q1046 qs36 q82 q1047) rfl rfl rfl (by decide +kernel) ⟨Nat.le_of_ble_eq_true rfl, Nat.le_of_ble_eq_true rfl⟩) rfl ⟨hl.1, Nat.le_of_ble_eq_true rfl, Nat.le_of_ble_eq_true rfl, Nat.le_of_ble_eq_true rfl⟩ rfl dX0_mixPiano_5 (fun μ2 H locs hf h => ?_)
  refine lv_iconst (v := 0) X.hx X.hb dX0_mixPiano_8 (by decide) ?_
  refine lv_istore_n (lv' := [(1, .int 0), (0, .ref (ad b0))]) X.hx X.hb dX0_mixPiano_9 rfl hl (by decide) rfl (fun ls hl => ?_)
  refine wX0_mixPiano_L10 l b0 _ X hr hlk (fun μ16 H locs ls hf h hl => ?_) 10000 _ _ _ _ _ hf h (lv_sub hl [1, 0] rfl)
  refine lv_aload_n X.hx X.hb dX0_mixPiano_47 rfl (lv_at hl 0 rfl) ?_
  refine r_getP X h (ci := 0) (k := 21) (C := RX0) (T := TX0) (N := 36) rfl in_X0 (by decide) q163 rfl dX0_mixPiano_48 hf (fun i17 hf => ?_)
  refine lv_astore_n (lv' := [(1, .ref (ad i17)), (0, .ref (ad b0))]) X.hx X.hb dX0_mixPiano_51 rfl hl (by decide) rfl (fun ls hl => ?_)
  refine lv_aload_n X.hx X.hb dX0_mixPiano_52 rfl (lv_at hl 0 rfl) ?_
  refine r_len X h (t := 6) rfl dX0_mixPiano_53 hf (fun x18 hf => ?_)
  refine lv_istore_n (lv' := [(2, .int x18), (1, .ref (ad i17)), (0, .ref (ad b0))]) X.hx X.hb dX0_mixPiano_54 rfl hl (by decide) rfl (fun ls hl => ?_)
  refine lv_iconst (v := 0) X.hx X.hb dX0_mixPiano_55 (by decide) ?_
  refine lv_istore_n (lv' := [(3, .int 0), (2, .int x18), (1, .ref (ad i17)), (0, .ref (ad b0))]) X.hx X.hb dX0_mixPiano_56 rfl hl (by decide) rfl (fun ls hl => ?_)
  refine wX0_mixPiano_L57 l b0 i17 x18 X hr hlk 10000 _ _ _ _ _ hf h (lv_sub hl [3, 2, 1, 0] rfl)
/-! X0_digest -/
def fX0_digest_L9 (b0 : Nat) (kx30 : gM → gR) : Nat → Int32 → gM → gR
  | 0, _, _ => none
  | n4 + 1, x2, μ3 => if 8 < x2 then (kx30 μ3) else (gis μ3 b0 0 <| cI (fX0_countOf μ3 b0 x2) fun x5 μ6 => gis μ6 b0 0 <| cV (fX0_mix μ6 b0 x5) fun μ7 => gnm (x2 + 1) fun x8 => fX0_digest_L9 b0 kx30 n4 x8 μ7)
set_option maxHeartbeats 4000000 in
theorem wX0_digest_L9 {p : Program} {e : Env} {s : State} {m : MethodId} {args : Array Value} {below : List Frame} {meth : Method} {c : Code} {Γ : gG} {A : Nat → Prop} {nz : Nat} {ad : Nat → Nat} {r : Option Value × gM} (l : Launch) (b0 : Nat) (kx30 : gM → gR) (X : gX p m c cX0_digest 7 s args "SandPiano" Γ A) (hr : meth.sig.returnType = (some .long)) (hlk : meth.locks = false) (hk30 : ∀  (μ : gM) (H : Heap) (locs : List Loc) (ls : Array Slot), kx30  μ = some r → gWd Γ A nz ad μ s.heap H locs → lv_has ls 7 [(0, .ref (ad b0))] → W p l e ({ frames := 5, cells := 0, slots := 0, locals := 108 } : Room) s m args below meth c H locs 0 0 (MQ below (gQ0 Γ ad nz r A) args s 0 0 A) (F0 m 30 ls [])) : ∀ (n4 : Nat) (x2 : Int32) (μ3 : gM) (H : Heap) (locs : List Loc) (ls : Array Slot), fX0_digest_L9 b0 kx30 n4 x2 μ3 = some r → gWd Γ A nz ad μ3 s.heap H locs → lv_has ls 7 [(0, .ref (ad b0)), (1, .int x2)] → W p l e ({ frames := 5, cells := 0, slots := 0, locals := 108 } : Room) s m args below meth c H locs 0 0 (MQ below (gQ0 Γ ad nz r A) args s 0 0 A) (F0 m 9 ls []) := by
  intro n4
  induction n4 with
  | zero =>
    intro x2 μ3 H locs ls hf h hl
    have hf : (none : gR) = some r := hf
    cases hf
  | succ n4 ih =>
    intro x2 μ3 H locs ls hf h hl
    rw [fX0_digest_L9] at hf
    refine lv_iload_n X.hx X.hb dX0_digest_9 rfl (lv_at hl 1 rfl) ?_
    refine lv_bipush (v := 8) X.hx X.hb dX0_digest_10 (by decide) ?_
    refine lv_icmp_gt (tgt := 30) X.hx X.hb dX0_digest_12 (by decide) (fun hc => ?_) (fun hc => ?_)
    · replace hf := gif_t hf hc
      clear hc
      exact hk30 _ _ _ _ hf h (lv_sub hl [0] rfl)
    · replace hf := gif_f hf hc
      clear hc
      refine lv_aload_n X.hx X.hb dX0_digest_15 rfl (lv_at hl 0 rfl) ?_
      refine lv_aload_n X.hx X.hb dX0_digest_16 rfl (lv_at hl 0 rfl) ?_
      refine lv_iload_n X.hx X.hb dX0_digest_17 rfl (lv_at hl 1 rfl) ?_
      refine r_cVI (As := [.int x2]) (rest := [.ref (ad b0)]) (C := RX0) (T := TX0) (N := 36) X h hf (fun res hres => wX0_countOf l Γ ad _ b0 x2 res hres) rfl (cwV 1 X.hts (lw_V q994 q996 qs33 q82 q997) rfl rfl rfl (by decide +kernel) ⟨Nat.le_of_ble_eq_true rfl, Nat.le_of_ble_eq_true rfl⟩) rfl ⟨hl.1, Nat.le_of_ble_eq_true rfl, Nat.le_of_ble_eq_true rfl, Nat.le_of_ble_eq_true rfl⟩ rfl dX0_digest_18 (fun x5 μ6 H locs hf h => ?_)
      refine r_cVV (As := [.int x5]) (rest := []) (C := RX0) (T := TX0) (N := 36) X h hf (fun res hres => wX0_mix l Γ ad _ b0 x5 res hres) rfl (cwV 1 X.hts (lw_V q1044 q1046 qs36 q82 q1047) rfl rfl rfl (by decide +kernel) ⟨Nat.le_of_ble_eq_true rfl, Nat.le_of_ble_eq_true rfl⟩) rfl ⟨hl.1, Nat.le_of_ble_eq_true rfl, Nat.le_of_ble_eq_true rfl, Nat.le_of_ble_eq_true rfl⟩ rfl dX0_digest_21 (fun μ7 H locs hf h => ?_)
      refine r_nmk hf (fun x8 ex hf => ?_)
      refine lv_iinc (v := x8) (lv' := [(1, .int x8), (0, .ref (ad b0))]) X.hx X.hb dX0_digest_24 hl (k := 1) rfl (by rw [ex]; rfl) (by decide) rfl (fun ls hl => ?_)
      clear ex
      refine lv_goto (tgt := 9) X.hx X.hb dX0_digest_27 (by decide) ?_
      exact ih _ _ _ _ _ hf h (lv_sub hl [1, 0] rfl)
def fX0_digest_L77 (b0 : Nat) (i11 : Nat) (x12 : Int32) (x13 : Int32) (o16 : Option Nat) (x17 : Int32) (kx99 : gM → gR) : Nat → Int32 → gM → gR
  | 0, _, _ => none
  | n23 + 1, x21, μ22 => if x17 ≤ x21 then (kx99 μ22) else (gnn o16 fun i24 => gaI μ22 0 i24 x21 fun x25 => gis μ22 b0 0 <| cV (fX0_mix μ22 b0 x25) fun μ26 => gnm (x21 + 1) fun x27 => fX0_digest_L77 b0 i11 x12 x13 o16 x17 kx99 n23 x27 μ26)
set_option maxHeartbeats 4000000 in
theorem wX0_digest_L77 {p : Program} {e : Env} {s : State} {m : MethodId} {args : Array Value} {below : List Frame} {meth : Method} {c : Code} {Γ : gG} {A : Nat → Prop} {nz : Nat} {ad : Nat → Nat} {r : Option Value × gM} (l : Launch) (b0 : Nat) (i11 : Nat) (x12 : Int32) (x13 : Int32) (o16 : Option Nat) (x17 : Int32) (kx99 : gM → gR) (X : gX p m c cX0_digest 7 s args "SandPiano" Γ A) (hr : meth.sig.returnType = (some .long)) (hlk : meth.locks = false) (hk99 : ∀  (μ : gM) (H : Heap) (locs : List Loc) (ls : Array Slot), kx99  μ = some r → gWd Γ A nz ad μ s.heap H locs → lv_has ls 7 [(0, .ref (ad b0)), (1, .ref (ad i11)), (2, .int x12), (3, .int x13)] → W p l e ({ frames := 5, cells := 0, slots := 0, locals := 108 } : Room) s m args below meth c H locs 0 0 (MQ below (gQ0 Γ ad nz r A) args s 0 0 A) (F0 m 99 ls [])) : ∀ (n23 : Nat) (x21 : Int32) (μ22 : gM) (H : Heap) (locs : List Loc) (ls : Array Slot), fX0_digest_L77 b0 i11 x12 x13 o16 x17 kx99 n23 x21 μ22 = some r → gWd Γ A nz ad μ22 s.heap H locs → lv_has ls 7 [(0, .ref (ad b0)), (1, .ref (ad i11)), (2, .int x12), (3, .int x13), (4, va_rf ((o16).map ad)), (5, .int x17), (6, .int x21)] → W p l e ({ frames := 5, cells := 0, slots := 0, locals := 108 } : Room) s m args below meth c H locs 0 0 (MQ below (gQ0 Γ ad nz r A) args s 0 0 A) (F0 m 77 ls []) := by
  intro n23
  induction n23 with
  | zero =>
    intro x21 μ22 H locs ls hf h hl
    have hf : (none : gR) = some r := hf
    cases hf
  | succ n23 ih =>
    intro x21 μ22 H locs ls hf h hl
    rw [fX0_digest_L77] at hf
    refine lv_iload X.hx X.hb dX0_digest_77 (lv_at hl 6 rfl) ?_
    refine lv_iload X.hx X.hb dX0_digest_79 (lv_at hl 5 rfl) ?_
    refine lv_icmp_ge (tgt := 99) X.hx X.hb dX0_digest_81 (by decide) (fun hc => ?_) (fun hc => ?_)
    · replace hf := gif_t hf hc
      clear hc
      exact hk99 _ _ _ _ hf h (lv_sub hl [0, 1, 2, 3] rfl)
    · replace hf := gif_f hf hc
      clear hc
      refine lv_aload_n X.hx X.hb dX0_digest_84 rfl (lv_at hl 0 rfl) ?_
      refine r_aloadQ X.hx X.hb dX0_digest_85 (lv_at hl 4 rfl) ?_
      refine r_nn hf (fun i24 hf => ?_)
      refine lv_iload X.hx X.hb dX0_digest_87 (lv_at hl 6 rfl) ?_
      refine r_iald X h dX0_digest_89 hf (fun x25 hf => ?_)
      refine r_cVV (As := [.int x25]) (rest := []) (C := RX0) (T := TX0) (N := 36) X h hf (fun res hres => wX0_mix l Γ ad _ b0 x25 res hres) rfl (cwV 1 X.hts (lw_V q1044 q1046 qs36 q82 q1047) rfl rfl rfl (by decide +kernel) ⟨Nat.le_of_ble_eq_true rfl, Nat.le_of_ble_eq_true rfl⟩) rfl ⟨hl.1, Nat.le_of_ble_eq_true rfl, Nat.le_of_ble_eq_true rfl, Nat.le_of_ble_eq_true rfl⟩ rfl dX0_digest_90 (fun μ26 H locs hf h => ?_)
      refine r_nmk hf (fun x27 ex hf => ?_)
      refine lv_iinc (v := x27) (lv' := [(6, .int x27), (0, .ref (ad b0)), (1, .ref (ad i11)), (2, .int x12), (3, .int x13), (4, va_rf ((o16).map ad)), (5, .int x17)]) X.hx X.hb dX0_digest_93 hl (k := 6) rfl (by rw [ex]; rfl) (by decide) rfl (fun ls hl => ?_)
      clear ex
      refine lv_goto (tgt := 77) X.hx X.hb dX0_digest_96 (by decide) ?_
      exact ih _ _ _ _ _ hf h (lv_sub hl [1, 2, 3, 4, 5, 6, 0] rfl)
def fX0_digest_L44 (b0 : Nat) (i11 : Nat) (x12 : Int32) (kx105 : gM → gR) : Nat → Int32 → gM → gR
  | 0, _, _ => none
  | n15 + 1, x13, μ14 => if x12 ≤ x13 then (kx105 μ14) else (gaQ μ14 3 i11 x13 fun o16 => gjn (fun (x17 : Int32) (μ18 : gM) => gis μ18 b0 0 <| cV (fX0_mix μ18 b0 x17) fun μ20 => fX0_digest_L77 b0 i11 x12 x13 o16 x17 (fun (μ28 : gM) => gnm (x13 + 1) fun x29 => fX0_digest_L44 b0 i11 x12 kx105 n15 x29 μ28) 10000 0 μ20) fun j19 => gnu o16 (j19 (-1) μ14) (gnn o16 fun i30 => glen μ14 0 i30 fun x31 => j19 x31 μ14))
set_option maxHeartbeats 4000000 in
theorem wX0_digest_L44 {p : Program} {e : Env} {s : State} {m : MethodId} {args : Array Value} {below : List Frame} {meth : Method} {c : Code} {Γ : gG} {A : Nat → Prop} {nz : Nat} {ad : Nat → Nat} {r : Option Value × gM} (l : Launch) (b0 : Nat) (i11 : Nat) (x12 : Int32) (kx105 : gM → gR) (X : gX p m c cX0_digest 7 s args "SandPiano" Γ A) (hr : meth.sig.returnType = (some .long)) (hlk : meth.locks = false) (hk105 : ∀  (μ : gM) (H : Heap) (locs : List Loc) (ls : Array Slot), kx105  μ = some r → gWd Γ A nz ad μ s.heap H locs → lv_has ls 7 [(0, .ref (ad b0))] → W p l e ({ frames := 5, cells := 0, slots := 0, locals := 108 } : Room) s m args below meth c H locs 0 0 (MQ below (gQ0 Γ ad nz r A) args s 0 0 A) (F0 m 105 ls [])) : ∀ (n15 : Nat) (x13 : Int32) (μ14 : gM) (H : Heap) (locs : List Loc) (ls : Array Slot), fX0_digest_L44 b0 i11 x12 kx105 n15 x13 μ14 = some r → gWd Γ A nz ad μ14 s.heap H locs → lv_has ls 7 [(0, .ref (ad b0)), (1, .ref (ad i11)), (2, .int x12), (3, .int x13)] → W p l e ({ frames := 5, cells := 0, slots := 0, locals := 108 } : Room) s m args below meth c H locs 0 0 (MQ below (gQ0 Γ ad nz r A) args s 0 0 A) (F0 m 44 ls []) := by
  intro n15
  induction n15 with
  | zero =>
    intro x13 μ14 H locs ls hf h hl
    have hf : (none : gR) = some r := hf
    cases hf
  | succ n15 ih =>
    intro x13 μ14 H locs ls hf h hl
    rw [fX0_digest_L44] at hf
    refine lv_iload_n X.hx X.hb dX0_digest_44 rfl (lv_at hl 3 rfl) ?_
    refine lv_iload_n X.hx X.hb dX0_digest_45 rfl (lv_at hl 2 rfl) ?_
    refine lv_icmp_ge (tgt := 105) X.hx X.hb dX0_digest_46 (by decide) (fun hc => ?_) (fun hc => ?_)
    · replace hf := gif_t hf hc
      clear hc
      exact hk105 _ _ _ _ hf h (lv_sub hl [0] rfl)
    · replace hf := gif_f hf hc
      clear hc
      refine lv_aload_n X.hx X.hb dX0_digest_49 rfl (lv_at hl 1 rfl) ?_
      refine lv_iload_n X.hx X.hb dX0_digest_50 rfl (lv_at hl 3 rfl) ?_
      refine r_aald X h (t := 3) rfl rfl dX0_digest_51 hf (fun o16 hf => ?_)
      refine r_astoreQ (lv' := [(4, va_rf ((o16).map ad)), (0, .ref (ad b0)), (1, .ref (ad i11)), (2, .int x12), (3, .int x13)]) X.hx X.hb dX0_digest_52 hl (by decide) rfl (fun ls hl => ?_)
      refine r_aloadQ X.hx X.hb dX0_digest_54 (lv_at hl 0 rfl) ?_
      refine r_jn hf (fun j19 ej19 hf => ?_)
      have hj19 : ∀ (x17 : Int32) (μ18 : gM) (H : Heap) (locs : List Loc) (ls : Array Slot), j19 x17 μ18 = some r → gWd Γ A nz ad μ18 s.heap H locs → lv_has ls 7 [(0, .ref (ad b0)), (1, .ref (ad i11)), (2, .int x12), (3, .int x13), (4, va_rf ((o16).map ad))] → W p l e ({ frames := 5, cells := 0, slots := 0, locals := 108 } : Room) s m args below meth c H locs 0 0 (MQ below (gQ0 Γ ad nz r A) args s 0 0 A) (F0 m 66 ls [.int x17]) := by
        intro x17 μ18 H locs ls hf h hl
        rw [ej19] at hf
        refine lv_istore (lv' := [(5, .int x17), (0, .ref (ad b0)), (1, .ref (ad i11)), (2, .int x12), (3, .int x13), (4, va_rf ((o16).map ad))]) X.hx X.hb dX0_digest_66 hl (by decide) (by cases o16 <;> rfl) (fun ls hl => ?_)
        refine lv_aload_n X.hx X.hb dX0_digest_68 rfl (lv_at hl 1 rfl) ?_
        refine lv_iload X.hx X.hb dX0_digest_69 (lv_at hl 0 rfl) ?_
        refine r_cVV (As := [.int x17]) (rest := []) (C := RX0) (T := TX0) (N := 36) X h hf (fun res hres => wX0_mix l Γ ad _ b0 x17 res hres) rfl (cwV 1 X.hts (lw_V q1044 q1046 qs36 q82 q1047) rfl rfl rfl (by decide +kernel) ⟨Nat.le_of_ble_eq_true rfl, Nat.le_of_ble_eq_true rfl⟩) rfl ⟨hl.1, Nat.le_of_ble_eq_true rfl, Nat.le_of_ble_eq_true rfl, Nat.le_of_ble_eq_true rfl⟩ rfl dX0_digest_71 (fun μ20 H locs hf h => ?_)
        refine lv_iconst (v := 0) X.hx X.hb dX0_digest_74 (by decide) ?_
        refine lv_istore (lv' := [(6, .int 0), (5, .int x17), (0, .ref (ad b0)), (1, .ref (ad i11)), (2, .int x12), (3, .int x13), (4, va_rf ((o16).map ad))]) X.hx X.hb dX0_digest_75 hl (by decide) rfl (fun ls hl => ?_)
        refine wX0_digest_L77 l b0 i11 x12 x13 o16 x17 _ X hr hlk (fun μ28 H locs ls hf h hl => ?_) 10000 _ _ _ _ _ hf h (lv_sub hl [2, 3, 4, 5, 6, 1, 0] rfl)
        refine r_nmk hf (fun x29 ex hf => ?_)
        refine lv_iinc (v := x29) (lv' := [(3, .int x29), (0, .ref (ad b0)), (1, .ref (ad i11)), (2, .int x12)]) X.hx X.hb dX0_digest_99 hl (k := 3) rfl (by rw [ex]; rfl) (by decide) rfl (fun ls hl => ?_)
        clear ex
        refine lv_goto (tgt := 44) X.hx X.hb dX0_digest_102 (by decide) ?_
        exact ih _ _ _ _ _ hf h (lv_sub hl [1, 2, 3, 0] rfl)
      clear ej19
      refine r_ifnn (tgt := 63) X.hx X.hb dX0_digest_56 (by decide) hf (fun hf => ?_) (fun hf => ?_)
      · refine r_aloadQ X.hx X.hb dX0_digest_63 (lv_at hl 0 rfl) ?_
        refine r_nn hf (fun i30 hf => ?_)
        refine r_len X h (t := 0) rfl dX0_digest_65 hf (fun x31 hf => ?_)
        exact hj19 _ _ _ _ _ hf h (lv_sub hl [1, 2, 3, 4, 0] rfl)
      · refine lv_iconst (v := (-1)) X.hx X.hb dX0_digest_59 (by decide) ?_
        refine lv_goto (tgt := 66) X.hx X.hb dX0_digest_60 (by decide) ?_
        exact hj19 _ _ _ _ _ hf h (lv_sub hl [1, 2, 3, 4, 0] rfl)
def fX0_digest_L148 (b0 : Nat) (i33 : Nat) (x34 : Int32) (x35 : Int32) (o38 : Option Nat) (x39 : Int32) (kx170 : gM → gR) : Nat → Int32 → gM → gR
  | 0, _, _ => none
  | n45 + 1, x43, μ44 => if x39 ≤ x43 then (kx170 μ44) else (gnn o38 fun i46 => gaI μ44 1 i46 x43 fun x47 => gis μ44 b0 0 <| cV (fX0_mix μ44 b0 x47) fun μ48 => gnm (x43 + 1) fun x49 => fX0_digest_L148 b0 i33 x34 x35 o38 x39 kx170 n45 x49 μ48)
set_option maxHeartbeats 4000000 in
theorem wX0_digest_L148 {p : Program} {e : Env} {s : State} {m : MethodId} {args : Array Value} {below : List Frame} {meth : Method} {c : Code} {Γ : gG} {A : Nat → Prop} {nz : Nat} {ad : Nat → Nat} {r : Option Value × gM} (l : Launch) (b0 : Nat) (i33 : Nat) (x34 : Int32) (x35 : Int32) (o38 : Option Nat) (x39 : Int32) (kx170 : gM → gR) (X : gX p m c cX0_digest 7 s args "SandPiano" Γ A) (hr : meth.sig.returnType = (some .long)) (hlk : meth.locks = false) (hk170 : ∀  (μ : gM) (H : Heap) (locs : List Loc) (ls : Array Slot), kx170  μ = some r → gWd Γ A nz ad μ s.heap H locs → lv_has ls 7 [(0, .ref (ad b0)), (1, .ref (ad i33)), (2, .int x34), (3, .int x35)] → W p l e ({ frames := 5, cells := 0, slots := 0, locals := 108 } : Room) s m args below meth c H locs 0 0 (MQ below (gQ0 Γ ad nz r A) args s 0 0 A) (F0 m 170 ls [])) : ∀ (n45 : Nat) (x43 : Int32) (μ44 : gM) (H : Heap) (locs : List Loc) (ls : Array Slot), fX0_digest_L148 b0 i33 x34 x35 o38 x39 kx170 n45 x43 μ44 = some r → gWd Γ A nz ad μ44 s.heap H locs → lv_has ls 7 [(0, .ref (ad b0)), (1, .ref (ad i33)), (2, .int x34), (3, .int x35), (4, va_rf ((o38).map ad)), (5, .int x39), (6, .int x43)] → W p l e ({ frames := 5, cells := 0, slots := 0, locals := 108 } : Room) s m args below meth c H locs 0 0 (MQ below (gQ0 Γ ad nz r A) args s 0 0 A) (F0 m 148 ls []) := by
  intro n45
  induction n45 with
  | zero =>
    intro x43 μ44 H locs ls hf h hl
    have hf : (none : gR) = some r := hf
    cases hf
  | succ n45 ih =>
    intro x43 μ44 H locs ls hf h hl
    rw [fX0_digest_L148] at hf
    refine lv_iload X.hx X.hb dX0_digest_148 (lv_at hl 6 rfl) ?_
    refine lv_iload X.hx X.hb dX0_digest_150 (lv_at hl 5 rfl) ?_
    refine lv_icmp_ge (tgt := 170) X.hx X.hb dX0_digest_152 (by decide) (fun hc => ?_) (fun hc => ?_)
    · replace hf := gif_t hf hc
      clear hc
      exact hk170 _ _ _ _ hf h (lv_sub hl [0, 1, 2, 3] rfl)
    · replace hf := gif_f hf hc
      clear hc
      refine lv_aload_n X.hx X.hb dX0_digest_155 rfl (lv_at hl 0 rfl) ?_
      refine r_aloadQ X.hx X.hb dX0_digest_156 (lv_at hl 4 rfl) ?_
      refine r_nn hf (fun i46 hf => ?_)
      refine lv_iload X.hx X.hb dX0_digest_158 (lv_at hl 6 rfl) ?_
      refine r_bald X h dX0_digest_160 hf (fun x47 hf => ?_)
      refine r_cVV (As := [.int x47]) (rest := []) (C := RX0) (T := TX0) (N := 36) X h hf (fun res hres => wX0_mix l Γ ad _ b0 x47 res hres) rfl (cwV 1 X.hts (lw_V q1044 q1046 qs36 q82 q1047) rfl rfl rfl (by decide +kernel) ⟨Nat.le_of_ble_eq_true rfl, Nat.le_of_ble_eq_true rfl⟩) rfl ⟨hl.1, Nat.le_of_ble_eq_true rfl, Nat.le_of_ble_eq_true rfl, Nat.le_of_ble_eq_true rfl⟩ rfl dX0_digest_161 (fun μ48 H locs hf h => ?_)
      refine r_nmk hf (fun x49 ex hf => ?_)
      refine lv_iinc (v := x49) (lv' := [(6, .int x49), (0, .ref (ad b0)), (1, .ref (ad i33)), (2, .int x34), (3, .int x35), (4, va_rf ((o38).map ad)), (5, .int x39)]) X.hx X.hb dX0_digest_164 hl (k := 6) rfl (by rw [ex]; rfl) (by decide) rfl (fun ls hl => ?_)
      clear ex
      refine lv_goto (tgt := 148) X.hx X.hb dX0_digest_167 (by decide) ?_
      exact ih _ _ _ _ _ hf h (lv_sub hl [1, 2, 3, 4, 5, 6, 0] rfl)
def fX0_digest_L115 (b0 : Nat) (i33 : Nat) (x34 : Int32) (kx176 : gM → gR) : Nat → Int32 → gM → gR
  | 0, _, _ => none
  | n37 + 1, x35, μ36 => if x34 ≤ x35 then (kx176 μ36) else (gaQ μ36 4 i33 x35 fun o38 => gjn (fun (x39 : Int32) (μ40 : gM) => gis μ40 b0 0 <| cV (fX0_mix μ40 b0 x39) fun μ42 => fX0_digest_L148 b0 i33 x34 x35 o38 x39 (fun (μ50 : gM) => gnm (x35 + 1) fun x51 => fX0_digest_L115 b0 i33 x34 kx176 n37 x51 μ50) 10000 0 μ42) fun j41 => gnu o38 (j41 (-1) μ36) (gnn o38 fun i52 => glen μ36 1 i52 fun x53 => j41 x53 μ36))
set_option maxHeartbeats 4000000 in
theorem wX0_digest_L115 {p : Program} {e : Env} {s : State} {m : MethodId} {args : Array Value} {below : List Frame} {meth : Method} {c : Code} {Γ : gG} {A : Nat → Prop} {nz : Nat} {ad : Nat → Nat} {r : Option Value × gM} (l : Launch) (b0 : Nat) (i33 : Nat) (x34 : Int32) (kx176 : gM → gR) (X : gX p m c cX0_digest 7 s args "SandPiano" Γ A) (hr : meth.sig.returnType = (some .long)) (hlk : meth.locks = false) (hk176 : ∀  (μ : gM) (H : Heap) (locs : List Loc) (ls : Array Slot), kx176  μ = some r → gWd Γ A nz ad μ s.heap H locs → lv_has ls 7 [(0, .ref (ad b0))] → W p l e ({ frames := 5, cells := 0, slots := 0, locals := 108 } : Room) s m args below meth c H locs 0 0 (MQ below (gQ0 Γ ad nz r A) args s 0 0 A) (F0 m 176 ls [])) : ∀ (n37 : Nat) (x35 : Int32) (μ36 : gM) (H : Heap) (locs : List Loc) (ls : Array Slot), fX0_digest_L115 b0 i33 x34 kx176 n37 x35 μ36 = some r → gWd Γ A nz ad μ36 s.heap H locs → lv_has ls 7 [(0, .ref (ad b0)), (1, .ref (ad i33)), (2, .int x34), (3, .int x35)] → W p l e ({ frames := 5, cells := 0, slots := 0, locals := 108 } : Room) s m args below meth c H locs 0 0 (MQ below (gQ0 Γ ad nz r A) args s 0 0 A) (F0 m 115 ls []) := by
  intro n37
  induction n37 with
  | zero =>
    intro x35 μ36 H locs ls hf h hl
    have hf : (none : gR) = some r := hf
    cases hf
  | succ n37 ih =>
    intro x35 μ36 H locs ls hf h hl
    rw [fX0_digest_L115] at hf
    refine lv_iload_n X.hx X.hb dX0_digest_115 rfl (lv_at hl 3 rfl) ?_
    refine lv_iload_n X.hx X.hb dX0_digest_116 rfl (lv_at hl 2 rfl) ?_
    refine lv_icmp_ge (tgt := 176) X.hx X.hb dX0_digest_117 (by decide) (fun hc => ?_) (fun hc => ?_)
    · replace hf := gif_t hf hc
      clear hc
      exact hk176 _ _ _ _ hf h (lv_sub hl [0] rfl)
    · replace hf := gif_f hf hc
      clear hc
      refine lv_aload_n X.hx X.hb dX0_digest_120 rfl (lv_at hl 1 rfl) ?_
      refine lv_iload_n X.hx X.hb dX0_digest_121 rfl (lv_at hl 3 rfl) ?_
      refine r_aald X h (t := 4) rfl rfl dX0_digest_122 hf (fun o38 hf => ?_)
      refine r_astoreQ (lv' := [(4, va_rf ((o38).map ad)), (0, .ref (ad b0)), (1, .ref (ad i33)), (2, .int x34), (3, .int x35)]) X.hx X.hb dX0_digest_123 hl (by decide) rfl (fun ls hl => ?_)
      refine r_aloadQ X.hx X.hb dX0_digest_125 (lv_at hl 0 rfl) ?_
      refine r_jn hf (fun j41 ej41 hf => ?_)
      have hj41 : ∀ (x39 : Int32) (μ40 : gM) (H : Heap) (locs : List Loc) (ls : Array Slot), j41 x39 μ40 = some r → gWd Γ A nz ad μ40 s.heap H locs → lv_has ls 7 [(0, .ref (ad b0)), (1, .ref (ad i33)), (2, .int x34), (3, .int x35), (4, va_rf ((o38).map ad))] → W p l e ({ frames := 5, cells := 0, slots := 0, locals := 108 } : Room) s m args below meth c H locs 0 0 (MQ below (gQ0 Γ ad nz r A) args s 0 0 A) (F0 m 137 ls [.int x39]) := by
        intro x39 μ40 H locs ls hf h hl
        rw [ej41] at hf
        refine lv_istore (lv' := [(5, .int x39), (0, .ref (ad b0)), (1, .ref (ad i33)), (2, .int x34), (3, .int x35), (4, va_rf ((o38).map ad))]) X.hx X.hb dX0_digest_137 hl (by decide) (by cases o38 <;> rfl) (fun ls hl => ?_)
        refine lv_aload_n X.hx X.hb dX0_digest_139 rfl (lv_at hl 1 rfl) ?_
        refine lv_iload X.hx X.hb dX0_digest_140 (lv_at hl 0 rfl) ?_
        refine r_cVV (As := [.int x39]) (rest := []) (C := RX0) (T := TX0) (N := 36) X h hf (fun res hres => wX0_mix l Γ ad _ b0 x39 res hres) rfl (cwV 1 X.hts (lw_V q1044 q1046 qs36 q82 q1047) rfl rfl rfl (by decide +kernel) ⟨Nat.le_of_ble_eq_true rfl, Nat.le_of_ble_eq_true rfl⟩) rfl ⟨hl.1, Nat.le_of_ble_eq_true rfl, Nat.le_of_ble_eq_true rfl, Nat.le_of_ble_eq_true rfl⟩ rfl dX0_digest_142 (fun μ42 H locs hf h => ?_)
        refine lv_iconst (v := 0) X.hx X.hb dX0_digest_145 (by decide) ?_
        refine lv_istore (lv' := [(6, .int 0), (5, .int x39), (0, .ref (ad b0)), (1, .ref (ad i33)), (2, .int x34), (3, .int x35), (4, va_rf ((o38).map ad))]) X.hx X.hb dX0_digest_146 hl (by decide) rfl (fun ls hl => ?_)
        refine wX0_digest_L148 l b0 i33 x34 x35 o38 x39 _ X hr hlk (fun μ50 H locs ls hf h hl => ?_) 10000 _ _ _ _ _ hf h (lv_sub hl [2, 3, 4, 5, 6, 1, 0] rfl)
        refine r_nmk hf (fun x51 ex hf => ?_)
        refine lv_iinc (v := x51) (lv' := [(3, .int x51), (0, .ref (ad b0)), (1, .ref (ad i33)), (2, .int x34)]) X.hx X.hb dX0_digest_170 hl (k := 3) rfl (by rw [ex]; rfl) (by decide) rfl (fun ls hl => ?_)
        clear ex
        refine lv_goto (tgt := 115) X.hx X.hb dX0_digest_173 (by decide) ?_
        exact ih _ _ _ _ _ hf h (lv_sub hl [1, 2, 3, 0] rfl)
      clear ej41
      refine r_ifnn (tgt := 134) X.hx X.hb dX0_digest_127 (by decide) hf (fun hf => ?_) (fun hf => ?_)
      · refine r_aloadQ X.hx X.hb dX0_digest_134 (lv_at hl 0 rfl) ?_
        refine r_nn hf (fun i52 hf => ?_)
        refine r_len X h (t := 1) rfl dX0_digest_136 hf (fun x53 hf => ?_)
        exact hj41 _ _ _ _ _ hf h (lv_sub hl [1, 2, 3, 4, 0] rfl)
      · refine lv_iconst (v := (-1)) X.hx X.hb dX0_digest_130 (by decide) ?_
        refine lv_goto (tgt := 137) X.hx X.hb dX0_digest_131 (by decide) ?_
        exact hj41 _ _ _ _ _ hf h (lv_sub hl [1, 2, 3, 4, 0] rfl)
def fX0_digest (μ0 : gM) (b0 : Nat) : gR := gpf μ0 b0 0 35 (.long 17) fun μ1 => fX0_digest_L9 b0 (fun (μ9 : gM) => gis μ9 b0 0 <| cV (fX0_mixPiano μ9 b0) fun μ10 => gP (gfld μ10 b0 0 5) fun i11 => glen μ10 3 i11 fun x12 => fX0_digest_L44 b0 i11 x12 (fun (μ32 : gM) => gP (gfld μ32 b0 0 6) fun i33 => glen μ32 4 i33 fun x34 => fX0_digest_L115 b0 i33 x34 (fun (μ54 : gM) => gJ (gfld μ54 b0 0 35) fun x55 => some (some (.long x55), μ54)) 10000 0 μ32) 10000 0 μ10) 10000 0 μ1
set_option maxHeartbeats 4000000 in
theorem wX0_digest (l : Launch) (Γ : gG) (ad : Nat → Nat) (μ0 : gM) (b0 : Nat) (r : Option Value × gM) (hf : fX0_digest μ0 b0 = some r) : gMt0 l Γ yX0_digest (ws_ yX0_digest cX0_digest 7 (some .long)) ({ frames := 5, cells := 0, slots := 0, locals := 108 } : Room) 0 0 ad μ0 [.ref (ad b0)] r := by
  intro sz
  refine g_start (maxL := 7) (ret := (some .long)) (by decide) rfl g_all (Nat.le_of_ble_eq_true rfl) ?_
  intro p e s m below meth c ls hr hlk hnm X h hl
  generalize gA ad μ0 sz = A at X h ⊢
  generalize ([.ref (ad b0)] : List Value).toArray = args at X ⊢
  have X : gX p m c cX0_digest 7 s args "SandPiano" Γ A := X
  have hl : lv_has ls 7 [(0, .ref (ad b0))] := hl
  show W p l e ({ frames := 5, cells := 0, slots := 0, locals := 108 } : Room) s m args below meth c s.heap [] 0 0 (MQ below (gQ0 Γ ad μ0.1 r A) args s 0 0 A) (F0 m 0 ls [])
  unfold fX0_digest at hf
  refine lv_aload_n X.hx X.hb dX0_digest_0 rfl (lv_at hl 0 rfl) ?_
  refine lv_ldc2 (v := 17) X.hx X.hb X.hown (X.hts _ q1043) dX0_digest_1 ?_
  refine r_put X h (ci := 0) (k := 35) (C := RX0) (T := TX0) (N := 36) (ty0 := tyX0) (ty := .long) (v := .long 17) rfl in_X0 tyX0_ok nmX0 (by decide) q177 rfl rfl (by decide +kernel) rfl rfl (fun j hj => by cases hj) dX0_digest_4 hf (fun μ1 H locs hf h => ?_)
  refine lv_iconst (v := 0) X.hx X.hb dX0_digest_7 (by decide) ?_
  refine lv_istore_n (lv' := [(1, .int 0), (0, .ref (ad b0))]) X.hx X.hb dX0_digest_8 rfl hl (by decide) rfl (fun ls hl => ?_)
  refine wX0_digest_L9 l b0 _ X hr hlk (fun μ9 H locs ls hf h hl => ?_) 10000 _ _ _ _ _ hf h (lv_sub hl [1, 0] rfl)
  refine lv_aload_n X.hx X.hb dX0_digest_30 rfl (lv_at hl 0 rfl) ?_
  refine r_cVV (As := []) (rest := []) (C := RX0) (T := TX0) (N := 36) X h hf (fun res hres => wX0_mixPiano l Γ ad _ b0 res hres) rfl (cwV 0 X.hts (lw_V q1049 q1051 qs37 q82 q1052) rfl rfl rfl (by decide +kernel) ⟨Nat.le_of_ble_eq_true rfl, Nat.le_of_ble_eq_true rfl⟩) rfl ⟨hl.1, Nat.le_of_ble_eq_true rfl, Nat.le_of_ble_eq_true rfl, Nat.le_of_ble_eq_true rfl⟩ rfl dX0_digest_31 (fun μ10 H locs hf h => ?_)
  refine lv_aload_n X.hx X.hb dX0_digest_34 rfl (lv_at hl 0 rfl) ?_
  refine r_getP X h (ci := 0) (k := 5) (C := RX0) (T := TX0) (N := 36) rfl in_X0 (by decide) q146 rfl dX0_digest_35 hf (fun i11 hf => ?_)
  refine lv_astore_n (lv' := [(1, .ref (ad i11)), (0, .ref (ad b0))]) X.hx X.hb dX0_digest_38 rfl hl (by decide) rfl (fun ls hl => ?_)
  refine lv_aload_n X.hx X.hb dX0_digest_39 rfl (lv_at hl 0 rfl) ?_
  refine r_len X h (t := 3) rfl dX0_digest_40 hf (fun x12 hf => ?_)
  refine lv_istore_n (lv' := [(2, .int x12), (1, .ref (ad i11)), (0, .ref (ad b0))]) X.hx X.hb dX0_digest_41 rfl hl (by decide) rfl (fun ls hl => ?_)
  refine lv_iconst (v := 0) X.hx X.hb dX0_digest_42 (by decide) ?_
  refine lv_istore_n (lv' := [(3, .int 0), (2, .int x12), (1, .ref (ad i11)), (0, .ref (ad b0))]) X.hx X.hb dX0_digest_43 rfl hl (by decide) rfl (fun ls hl => ?_)
  refine wX0_digest_L44 l b0 i11 x12 _ X hr hlk (fun μ32 H locs ls hf h hl => ?_) 10000 _ _ _ _ _ hf h (lv_sub hl [3, 2, 1, 0] rfl)
  refine lv_aload_n X.hx X.hb dX0_digest_105 rfl (lv_at hl 0 rfl) ?_
  refine r_getP X h (ci := 0) (k := 6) (C := RX0) (T := TX0) (N := 36) rfl in_X0 (by decide) q147 rfl dX0_digest_106 hf (fun i33 hf => ?_)
  refine lv_astore_n (lv' := [(1, .ref (ad i33)), (0, .ref (ad b0))]) X.hx X.hb dX0_digest_109 rfl hl (by decide) rfl (fun ls hl => ?_)
  refine lv_aload_n X.hx X.hb dX0_digest_110 rfl (lv_at hl 0 rfl) ?_
  refine r_len X h (t := 4) rfl dX0_digest_111 hf (fun x34 hf => ?_)
  refine lv_istore_n (lv' := [(2, .int x34), (1, .ref (ad i33)), (0, .ref (ad b0))]) X.hx X.hb dX0_digest_112 rfl hl (by decide) rfl (fun ls hl => ?_)
  refine lv_iconst (v := 0) X.hx X.hb dX0_digest_113 (by decide) ?_
  refine lv_istore_n (lv' := [(3, .int 0), (2, .int x34), (1, .ref (ad i33)), (0, .ref (ad b0))]) X.hx X.hb dX0_digest_114 rfl hl (by decide) rfl (fun ls hl => ?_)
  refine wX0_digest_L115 l b0 i33 x34 _ X hr hlk (fun μ54 H locs ls hf h hl => ?_) 10000 _ _ _ _ _ hf h (lv_sub hl [3, 2, 1, 0] rfl)
  refine lv_aload_n X.hx X.hb dX0_digest_176 rfl (lv_at hl 0 rfl) ?_
  refine r_getJ X h (ci := 0) (k := 35) (C := RX0) (T := TX0) (N := 36) rfl in_X0 (by decide) q177 rfl dX0_digest_177 hf (fun x55 hf => ?_)
  exact r_rl X h hr hlk (Nat.le_of_ble_eq_true rfl) (Nat.le_of_ble_eq_true rfl) dX0_digest_180 hf
/-! X0_digs -/
def fX0_digs_L31 (b0 : Nat) (a1 : Int32) (a2 : Int32) (kx53 : Int32 → gM → gR) : Nat → Int32 → gM → gR
  | 0, _, _ => none
  | n9 + 1, x7, μ8 => if 4 < x7 then (some (some (.int (-9)), μ8)) else (gP (gfld μ8 b0 0 5) fun i11 => gaQ μ8 3 i11 a1 fun o12 => gnn o12 fun i13 => gis μ8 b0 0 <| cI (fX0_digOn 8 μ8 b0 i13 0 x7) fun x14 μ15 => if x14 = 0 then (gnm (x7 + 1) fun x16 => fX0_digs_L31 b0 a1 a2 kx53 n9 x16 μ15) else (kx53 x7 μ15))
set_option maxHeartbeats 4000000 in
theorem wX0_digs_L31 {p : Program} {e : Env} {s : State} {m : MethodId} {args : Array Value} {below : List Frame} {meth : Method} {c : Code} {Γ : gG} {A : Nat → Prop} {nz : Nat} {ad : Nat → Nat} {r : Option Value × gM} (l : Launch) (b0 : Nat) (a1 : Int32) (a2 : Int32) (kx53 : Int32 → gM → gR) (X : gX p m c cX0_digs 5 s args "SandPiano" Γ A) (hr : meth.sig.returnType = (some .int)) (hlk : meth.locks = false) (hk53 : ∀ (x17 : Int32) (μ : gM) (ad1 : Nat → Nat) (H : Heap) (locs : List Loc) (ls : Array Slot), (∀ i, i < nz → ad1 i = ad i) → kx53 x17 μ = some r → gWd Γ A nz ad1 μ s.heap H locs → lv_has ls 5 [(0, .ref (ad1 b0)), (2, .int a2), (4, .int x17)] → W p l e ({ frames := 14, cells := 1, slots := 12, locals := 328 } : Room) s m args below meth c H locs 0 0 (MQ below (gQ1 Γ ad nz r A) args s 1 12 A) (F0 m 53 ls [])) : ∀ (n9 : Nat) (x7 : Int32) (μ8 : gM) (ad10 : Nat → Nat) (H : Heap) (locs : List Loc) (ls : Array Slot), (∀ i, i < nz → ad10 i = ad i) → fX0_digs_L31 b0 a1 a2 kx53 n9 x7 μ8 = some r → gWd Γ A nz ad10 μ8 s.heap H locs → lv_has ls 5 [(0, .ref (ad10 b0)), (1, .int a1), (2, .int a2), (4, .int x7)] → W p l e ({ frames := 14, cells := 1, slots := 12, locals := 328 } : Room) s m args below meth c H locs 0 0 (MQ below (gQ1 Γ ad nz r A) args s 1 12 A) (F0 m 31 ls []) := by
  intro n9
  induction n9 with
  | zero =>
    intro x7 μ8 ad10 H locs ls hag hf h hl
    have hf : (none : gR) = some r := hf
    cases hf
  | succ n9 ih =>
    intro x7 μ8 ad10 H locs ls hag hf h hl
    rw [fX0_digs_L31] at hf
    refine lv_iload X.hx X.hb dX0_digs_31 (lv_at hl 3 rfl) ?_
    refine lv_iconst (v := 4) X.hx X.hb dX0_digs_33 (by decide) ?_
    refine lv_icmp_gt (tgt := 71) X.hx X.hb dX0_digs_34 (by decide) (fun hc => ?_) (fun hc => ?_)
    · replace hf := gif_t hf hc
      clear hc
      refine lv_bipush (v := (-9)) X.hx X.hb dX0_digs_71 (by decide) ?_
      exact r_ri1 X h hag hr hlk (Nat.le_of_ble_eq_true rfl) (Nat.le_of_ble_eq_true rfl) dX0_digs_73 hf
    · replace hf := gif_f hf hc
      clear hc
      refine lv_aload_n X.hx X.hb dX0_digs_37 rfl (lv_at hl 0 rfl) ?_
      refine lv_aload_n X.hx X.hb dX0_digs_38 rfl (lv_at hl 0 rfl) ?_
      refine r_getP X h (ci := 0) (k := 5) (C := RX0) (T := TX0) (N := 36) rfl in_X0 (by decide) q146 rfl dX0_digs_39 hf (fun i11 hf => ?_)
      refine lv_iload_n X.hx X.hb dX0_digs_42 rfl (lv_at hl 1 rfl) ?_
      refine r_aald X h (t := 3) rfl rfl dX0_digs_43 hf (fun o12 hf => ?_)
      refine r_nn hf (fun i13 hf => ?_)
      refine lv_iconst (v := 0) X.hx X.hb dX0_digs_44 (by decide) ?_
      refine lv_iload X.hx X.hb dX0_digs_45 (lv_at hl 3 rfl) ?_
      refine r_cVI (As := [.ref (ad10 i13), .int 0, .int x7]) (rest := []) (C := RX0) (T := TX0) (N := 36) X h hf (fun res hres => wX0_digOn l Γ 8 ad10 _ b0 i13 0 x7 res hres) rfl (cwV 3 X.hts (lw_V q861 q863 qs19 q82 q864) rfl rfl rfl (by decide +kernel) ⟨Nat.le_of_ble_eq_true rfl, Nat.le_of_ble_eq_true rfl⟩) rfl ⟨hl.1, Nat.le_of_ble_eq_true rfl, Nat.le_of_ble_eq_true rfl, Nat.le_of_ble_eq_true rfl⟩ rfl dX0_digs_47 (fun x14 μ15 H locs hf h => ?_)
      refine lv_if_eq (tgt := 65) X.hx X.hb dX0_digs_50 (by decide) (fun hc => ?_) (fun hc => ?_)
      · replace hf := gif_t hf hc
        clear hc
        refine r_nmk hf (fun x16 ex hf => ?_)
        refine lv_iinc (v := x16) (lv' := [(4, .int x16), (0, .ref (ad10 b0)), (1, .int a1), (2, .int a2)]) X.hx X.hb dX0_digs_65 hl (k := 3) rfl (by rw [ex]; rfl) (by decide) rfl (fun ls hl => ?_)
        clear ex
        refine lv_goto (tgt := 31) X.hx X.hb dX0_digs_68 (by decide) ?_
        exact ih _ _ _ _ _ _ hag hf h (lv_sub hl [1, 2, 3, 0] rfl)
      · replace hf := gif_f hf hc
        clear hc
        exact hk53 _ _ _ _ _ _ hag hf h (lv_sub hl [0, 2, 3] rfl)
def fX0_digs (μ0 : gM) (b0 : Nat) (a1 : Int32) (a2 : Int32) : gR := cI (fX0_isRow μ0 a1) fun x1 μ2 => if x1 = 0 then (some (some (.int (-1)), μ2)) else (cI (fX0_isRow μ2 a2) fun x3 μ4 => if x3 = 0 then (some (some (.int (-1)), μ4)) else (gis μ4 b0 0 <| cI (fX0_askedPiece μ4 b0 a1) fun x5 μ6 => if 0 ≤ x5 then (fX0_digs_L31 b0 a1 a2 (fun (x18 : Int32) (μ19 : gM) => gP (gfld μ19 b0 0 24) fun i21 => glv μ19 b0 <| gis μ19 b0 0 <| cI (fX0_layRow μ19 b0 a2 i21 x18) fun x22 μ23 => some (some (.int x22), μ23)) 10000 0 μ6) else (some (some (.int x5), μ6))))
set_option maxHeartbeats 4000000 in
theorem wX0_digs (l : Launch) (Γ : gG) (ad : Nat → Nat) (μ0 : gM) (b0 : Nat) (a1 : Int32) (a2 : Int32) (r : Option Value × gM) (hf : fX0_digs μ0 b0 a1 a2 = some r) : gMt1 l Γ yX0_digs (ws_ yX0_digs cX0_digs 5 (some .int)) ({ frames := 14, cells := 1, slots := 12, locals := 328 } : Room) 1 12 ad μ0 [.ref (ad b0), .int a1, .int a2] r := by
  intro sz
  refine g_start (maxL := 5) (ret := (some .int)) (by decide) rfl g_all (Nat.le_of_ble_eq_true rfl) ?_
  intro p e s m below meth c ls hr hlk hnm X h hl
  generalize gA ad μ0 sz = A at X h ⊢
  generalize ([.ref (ad b0), .int a1, .int a2] : List Value).toArray = args at X ⊢
  have X : gX p m c cX0_digs 5 s args "SandPiano" Γ A := X
  have hl : lv_has ls 5 [(0, .ref (ad b0)), (1, .int a1), (2, .int a2)] := hl
  show W p l e ({ frames := 14, cells := 1, slots := 12, locals := 328 } : Room) s m args below meth c s.heap [] 0 0 (MQ below (gQ1 Γ ad μ0.1 r A) args s 1 12 A) (F0 m 0 ls [])
  unfold fX0_digs at hf
  have hag : ∀ i, i < μ0.1 → ad i = ad i := fun _ _ => rfl
  refine lv_iload_n X.hx X.hb dX0_digs_0 rfl (lv_at hl 1 rfl) ?_
  refine r_cSI (As := [.int a1]) (rest := []) X h hf (fun res hres => wX0_isRow l Γ ad _ a1 res hres) (va_cwS 1 X.hts (lw_S q341 q342 q82 q343) rfl rfl rfl (by decide +kernel) ⟨Nat.le_of_ble_eq_true rfl, Nat.le_of_ble_eq_true rfl⟩) rfl ⟨hl.1, Nat.le_of_ble_eq_true rfl, Nat.le_of_ble_eq_true rfl, Nat.le_of_ble_eq_true rfl⟩ rfl dX0_digs_1 (fun x1 μ2 H locs hf h => ?_)
  refine lv_if_eq (tgt := 14) X.hx X.hb dX0_digs_4 (by decide) (fun hc => ?_) (fun hc => ?_)
  · replace hf := gif_t hf hc
    clear hc
    refine lv_iconst (v := (-1)) X.hx X.hb dX0_digs_14 (by decide) ?_
    exact r_ri1 X h hag hr hlk (Nat.le_of_ble_eq_true rfl) (Nat.le_of_ble_eq_true rfl) dX0_digs_15 hf
  · replace hf := gif_f hf hc
    clear hc
    refine lv_iload_n X.hx X.hb dX0_digs_7 rfl (lv_at hl 2 rfl) ?_
    refine r_cSI (As := [.int a2]) (rest := []) X h hf (fun res hres => wX0_isRow l Γ ad _ a2 res hres) (va_cwS 1 X.hts (lw_S q341 q342 q82 q343) rfl rfl rfl (by decide +kernel) ⟨Nat.le_of_ble_eq_true rfl, Nat.le_of_ble_eq_true rfl⟩) rfl ⟨hl.1, Nat.le_of_ble_eq_true rfl, Nat.le_of_ble_eq_true rfl, Nat.le_of_ble_eq_true rfl⟩ rfl dX0_digs_8 (fun x3 μ4 H locs hf h => ?_)
    refine lv_if_ne (tgt := 16) X.hx X.hb dX0_digs_11 (by decide) (fun hc => ?_) (fun hc => ?_)
    · replace hf := gif_f hf hc
      clear hc
      refine lv_aload_n X.hx X.hb dX0_digs_16 rfl (lv_at hl 0 rfl) ?_
      refine lv_iload_n X.hx X.hb dX0_digs_17 rfl (lv_at hl 1 rfl) ?_
      refine r_cVI (As := [.int a1]) (rest := []) (C := RX0) (T := TX0) (N := 36) X h hf (fun res hres => wX0_askedPiece l Γ ad _ b0 a1 res hres) rfl (cwV 1 X.hts (lw_V q845 q847 qs17 q82 q848) rfl rfl rfl (by decide +kernel) ⟨Nat.le_of_ble_eq_true rfl, Nat.le_of_ble_eq_true rfl⟩) rfl ⟨hl.1, Nat.le_of_ble_eq_true rfl, Nat.le_of_ble_eq_true rfl, Nat.le_of_ble_eq_true rfl⟩ rfl dX0_digs_18 (fun x5 μ6 H locs hf h => ?_)
      refine lv_istore_n (lv' := [(3, .int x5), (0, .ref (ad b0)), (1, .int a1), (2, .int a2)]) X.hx X.hb dX0_digs_21 rfl hl (by decide) rfl (fun ls hl => ?_)
      refine lv_iload_n X.hx X.hb dX0_digs_22 rfl (lv_at hl 0 rfl) ?_
      refine lv_if_ge (tgt := 28) X.hx X.hb dX0_digs_23 (by decide) (fun hc => ?_) (fun hc => ?_)
      · replace hf := gif_t hf hc
        clear hc
        refine lv_iconst (v := 0) X.hx X.hb dX0_digs_28 (by decide) ?_
        refine lv_istore (lv' := [(4, .int 0), (3, .int x5), (0, .ref (ad b0)), (1, .int a1), (2, .int a2)]) X.hx X.hb dX0_digs_29 hl (by decide) rfl (fun ls hl => ?_)
        refine wX0_digs_L31 l b0 a1 a2 _ X hr hlk (fun x18 μ19 ad20 H locs ls hag hf h hl => ?_) 10000 _ _ _ _ _ _ hag hf h (lv_sub hl [2, 3, 4, 0] rfl)
        refine lv_aload_n X.hx X.hb dX0_digs_53 rfl (lv_at hl 0 rfl) ?_
        refine lv_iload_n X.hx X.hb dX0_digs_54 rfl (lv_at hl 1 rfl) ?_
        refine lv_aload_n X.hx X.hb dX0_digs_55 rfl (lv_at hl 0 rfl) ?_
        refine r_getP X h (ci := 0) (k := 24) (C := RX0) (T := TX0) (N := 36) rfl in_X0 (by decide) q166 rfl dX0_digs_56 hf (fun i21 hf => ?_)
        refine lv_iload X.hx X.hb dX0_digs_59 (lv_at hl 2 rfl) ?_
        obtain ⟨⟨ek0, hek0⟩, hf⟩ := glv_some hf
        have hlt0 := (h.1 _ _ hek0).1
        clear hek0 ek0
        have hle := h.2.2.2
        refine r_cVI1 (As := [.int a2, .ref (ad20 i21), .int x18]) (rest := []) (C := RX0) (T := TX0) (N := 36) X h hf (fun res hres => wX0_layRow l Γ ad20 _ b0 a2 i21 x18 res hres) rfl (cwV 3 X.hts (lw_V q865 q867 qs20 q82 q868) rfl rfl rfl (by decide +kernel) ⟨Nat.le_of_ble_eq_true rfl, Nat.le_of_ble_eq_true rfl⟩) rfl ⟨hl.1, Nat.le_of_ble_eq_true rfl, Nat.le_of_ble_eq_true rfl, Nat.le_of_ble_eq_true rfl⟩ rfl dX0_digs_61 (fun x22 ad24 μ23 H locs hf hag1 h => ?_)
        replace hl : lv_has ls 5 [(0, .ref (ad24 b0)), (2, .int a2), (4, .int x18)] := by rw [hag1 b0 hlt0]; exact hl
        replace hag : ∀ i, i < μ0.1 → ad24 i = ad i := fun i hi => (hag1 i (Nat.lt_of_lt_of_le hi hle)).trans (hag i hi)
        clear hag1 hle hlt0
        exact r_ri1 X h hag hr hlk (Nat.le_of_ble_eq_true rfl) (Nat.le_of_ble_eq_true rfl) dX0_digs_64 hf
      · replace hf := gif_f hf hc
        clear hc
        refine lv_iload_n X.hx X.hb dX0_digs_26 rfl (lv_at hl 0 rfl) ?_
        exact r_ri1 X h hag hr hlk (Nat.le_of_ble_eq_true rfl) (Nat.le_of_ble_eq_true rfl) dX0_digs_27 hf
    · replace hf := gif_t hf hc
      clear hc
      refine lv_iconst (v := (-1)) X.hx X.hb dX0_digs_14 (by decide) ?_
      exact r_ri1 X h hag hr hlk (Nat.le_of_ble_eq_true rfl) (Nat.le_of_ble_eq_true rfl) dX0_digs_15 hf
/-! X0_isKept -/
def fX0_isKept (μ0 : gM) (a1 : Int32) : gR := cI (fX0_isIn μ0 a1 0 2) fun x1 μ2 => rZ x1 μ2
set_option maxHeartbeats 4000000 in
theorem wX0_isKept (l : Launch) (Γ : gG) (ad : Nat → Nat) (μ0 : gM) (a1 : Int32) (r : Option Value × gM) (hf : fX0_isKept μ0 a1 = some r) : gMt0 l Γ yX0_isKept (ws_ yX0_isKept cX0_isKept 1 (some .boolean)) ({ frames := 1, cells := 0, slots := 0, locals := 22 } : Room) 0 0 ad μ0 [.int a1] r := by
  intro sz
  refine g_start (maxL := 1) (ret := (some .boolean)) (by decide) rfl g_all (Nat.le_of_ble_eq_true rfl) ?_
  intro p e s m below meth c ls hr hlk hnm X h hl
  generalize gA ad μ0 sz = A at X h ⊢
  generalize ([.int a1] : List Value).toArray = args at X ⊢
  have X : gX p m c cX0_isKept 1 s args "SandPiano" Γ A := X
  have hl : lv_has ls 1 [(0, .int a1)] := hl
  show W p l e ({ frames := 1, cells := 0, slots := 0, locals := 22 } : Room) s m args below meth c s.heap [] 0 0 (MQ below (gQ0 Γ ad μ0.1 r A) args s 0 0 A) (F0 m 0 ls [])
  unfold fX0_isKept at hf
  refine lv_iload_n X.hx X.hb dX0_isKept_0 rfl (lv_at hl 0 rfl) ?_
  refine lv_iconst (v := 0) X.hx X.hb dX0_isKept_1 (by decide) ?_
  refine lv_iconst (v := 2) X.hx X.hb dX0_isKept_2 (by decide) ?_
  refine r_cSI (As := [.int a1, .int 0, .int 2]) (rest := []) X h hf (fun res hres => wX0_isIn l Γ ad _ a1 0 2 res hres) (va_cwS 3 X.hts (lw_S q344 q345 q82 q346) rfl rfl rfl (by decide +kernel) ⟨Nat.le_of_ble_eq_true rfl, Nat.le_of_ble_eq_true rfl⟩) rfl ⟨hl.1, Nat.le_of_ble_eq_true rfl, Nat.le_of_ble_eq_true rfl, Nat.le_of_ble_eq_true rfl⟩ rfl dX0_isKept_3 (fun x1 μ2 H locs hf h => ?_)
  exact r_rz X h hr hlk (Nat.le_of_ble_eq_true rfl) (Nat.le_of_ble_eq_true rfl) dX0_isKept_6 hf
/-! X0_duet -/
def fX0_duet_L81 (b0 : Nat) (i20 : Nat) : Nat → Int32 → gM → gR
  | 0, _, _ => none
  | n23 + 1, x21, μ22 => glen μ22 0 i20 fun x24 => if x24 ≤ x21 then (some (some (.int x21), μ22)) else (gP (gfld μ22 b0 0 9) fun i25 => gaI μ22 0 i20 x21 fun x26 => gaQ μ22 5 i25 x26 fun o27 => gnn o27 fun i28 => gjn (fun (i29 : Nat) (μ30 : gM) => cI (vX3_plays μ30 i28 i29) fun x32 μ33 => if x32 = 0 then (some (some (.int x21), μ33)) else (gjn (fun (i34 : Nat) (μ35 : gM) => gaI μ35 0 i20 x21 fun x37 => gis μ35 b0 0 <| cV (fX0_playIn μ35 b0 i34 x37) fun μ38 => gnm (x21 + 1) fun x39 => fX0_duet_L81 b0 i20 n23 x39 μ38) fun j36 => if (x21 - x21 / 2 * 2) = 0 then (gP (gfld μ33 b0 0 22) fun i41 => j36 i41 μ33) else (gP (gfld μ33 b0 0 23) fun i40 => j36 i40 μ33))) fun j31 => if (x21 - x21 / 2 * 2) = 0 then (gP (gfld μ22 b0 0 22) fun i43 => j31 i43 μ22) else (gP (gfld μ22 b0 0 23) fun i42 => j31 i42 μ22))
set_option maxHeartbeats 4000000 in
theorem wX0_duet_L81 {p : Program} {e : Env} {s : State} {m : MethodId} {args : Array Value} {below : List Frame} {meth : Method} {c : Code} {Γ : gG} {A : Nat → Prop} {nz : Nat} {ad : Nat → Nat} {r : Option Value × gM} (l : Launch) (b0 : Nat) (i20 : Nat) (X : gX p m c cX0_duet 6 s args "SandPiano" Γ A) (hr : meth.sig.returnType = (some .int)) (hlk : meth.locks = false) : ∀ (n23 : Nat) (x21 : Int32) (μ22 : gM) (H : Heap) (locs : List Loc) (ls : Array Slot), fX0_duet_L81 b0 i20 n23 x21 μ22 = some r → gWd Γ A nz ad μ22 s.heap H locs → lv_has ls 6 [(0, .ref (ad b0)), (4, .ref (ad i20)), (5, .int x21)] → W p l e ({ frames := 4, cells := 0, slots := 0, locals := 89 } : Room) s m args below meth c H locs 0 0 (MQ below (gQ0 Γ ad nz r A) args s 0 0 A) (F0 m 81 ls []) := by
  intro n23
  induction n23 with
  | zero =>
    intro x21 μ22 H locs ls hf h hl
    have hf : (none : gR) = some r := hf
    cases hf
  | succ n23 ih =>
    intro x21 μ22 H locs ls hf h hl
    rw [fX0_duet_L81] at hf
    refine lv_iload X.hx X.hb dX0_duet_81 (lv_at hl 2 rfl) ?_
    refine lv_aload X.hx X.hb dX0_duet_83 (lv_at hl 1 rfl) ?_
    refine r_len X h (t := 0) rfl dX0_duet_85 hf (fun x24 hf => ?_)
    refine lv_icmp_ge (tgt := 156) X.hx X.hb dX0_duet_86 (by decide) (fun hc => ?_) (fun hc => ?_)
    · replace hf := gif_t hf hc
      clear hc
      refine lv_iload X.hx X.hb dX0_duet_156 (lv_at hl 2 rfl) ?_
      exact r_ri X h hr hlk (Nat.le_of_ble_eq_true rfl) (Nat.le_of_ble_eq_true rfl) dX0_duet_158 hf
    · replace hf := gif_f hf hc
      clear hc
      refine lv_aload_n X.hx X.hb dX0_duet_89 rfl (lv_at hl 0 rfl) ?_
      refine r_getP X h (ci := 0) (k := 9) (C := RX0) (T := TX0) (N := 36) rfl in_X0 (by decide) q151 rfl dX0_duet_90 hf (fun i25 hf => ?_)
      refine lv_aload X.hx X.hb dX0_duet_93 (lv_at hl 1 rfl) ?_
      refine lv_iload X.hx X.hb dX0_duet_95 (lv_at hl 2 rfl) ?_
      refine r_iald X h dX0_duet_97 hf (fun x26 hf => ?_)
      refine r_aald X h (t := 5) rfl rfl dX0_duet_98 hf (fun o27 hf => ?_)
      refine r_nn hf (fun i28 hf => ?_)
      refine lv_iload X.hx X.hb dX0_duet_99 (lv_at hl 2 rfl) ?_
      refine lv_iconst (v := 2) X.hx X.hb dX0_duet_101 (by decide) ?_
      refine lv_irem X.hx X.hb dX0_duet_102 (by decide) ?_
      refine r_jn hf (fun j31 ej31 hf => ?_)
      have hj31 : ∀ (i29 : Nat) (μ30 : gM) (H : Heap) (locs : List Loc) (ls : Array Slot), j31 i29 μ30 = some r → gWd Γ A nz ad μ30 s.heap H locs → lv_has ls 6 [(0, .ref (ad b0)), (4, .ref (ad i20)), (5, .int x21)] → W p l e ({ frames := 4, cells := 0, slots := 0, locals := 89 } : Room) s m args below meth c H locs 0 0 (MQ below (gQ0 Γ ad nz r A) args s 0 0 A) (F0 m 117 ls [.ref (ad i29), .ref (ad i28)]) := by
        intro i29 μ30 H locs ls hf h hl
        rw [ej31] at hf
        refine wvX3_plays X h q597 (Nat.le_of_ble_eq_true rfl) (Nat.le_of_ble_eq_true rfl) (rest := []) ⟨hl.1, Nat.le_of_ble_eq_true rfl, Nat.le_of_ble_eq_true rfl, Nat.le_of_ble_eq_true rfl⟩ rfl dX0_duet_117 hf (fun x32 μ33 H locs hf h => ?_)
        refine lv_if_eq (tgt := 156) X.hx X.hb dX0_duet_120 (by decide) (fun hc => ?_) (fun hc => ?_)
        · replace hf := gif_t hf hc
          clear hc
          refine lv_iload X.hx X.hb dX0_duet_156 (lv_at hl 2 rfl) ?_
          exact r_ri X h hr hlk (Nat.le_of_ble_eq_true rfl) (Nat.le_of_ble_eq_true rfl) dX0_duet_158 hf
        · replace hf := gif_f hf hc
          clear hc
          refine lv_aload_n X.hx X.hb dX0_duet_123 rfl (lv_at hl 0 rfl) ?_
          refine lv_iload X.hx X.hb dX0_duet_124 (lv_at hl 2 rfl) ?_
          refine lv_iconst (v := 2) X.hx X.hb dX0_duet_126 (by decide) ?_
          refine lv_irem X.hx X.hb dX0_duet_127 (by decide) ?_
          refine r_jn hf (fun j36 ej36 hf => ?_)
          have hj36 : ∀ (i34 : Nat) (μ35 : gM) (H : Heap) (locs : List Loc) (ls : Array Slot), j36 i34 μ35 = some r → gWd Γ A nz ad μ35 s.heap H locs → lv_has ls 6 [(0, .ref (ad b0)), (4, .ref (ad i20)), (5, .int x21)] → W p l e ({ frames := 4, cells := 0, slots := 0, locals := 89 } : Room) s m args below meth c H locs 0 0 (MQ below (gQ0 Γ ad nz r A) args s 0 0 A) (F0 m 142 ls [.ref (ad i34), .ref (ad b0)]) := by
            intro i34 μ35 H locs ls hf h hl
            rw [ej36] at hf
            refine lv_aload X.hx X.hb dX0_duet_142 (lv_at hl 1 rfl) ?_
            refine lv_iload X.hx X.hb dX0_duet_144 (lv_at hl 2 rfl) ?_
            refine r_iald X h dX0_duet_146 hf (fun x37 hf => ?_)
            refine r_cVV (As := [.ref (ad i34), .int x37]) (rest := []) (C := RX0) (T := TX0) (N := 36) X h hf (fun res hres => wX0_playIn l Γ ad _ b0 i34 x37 res hres) rfl (cwV 2 X.hts (lw_V q722 q724 qs14 q82 q725) rfl rfl rfl (by decide +kernel) ⟨Nat.le_of_ble_eq_true rfl, Nat.le_of_ble_eq_true rfl⟩) rfl ⟨hl.1, Nat.le_of_ble_eq_true rfl, Nat.le_of_ble_eq_true rfl, Nat.le_of_ble_eq_true rfl⟩ rfl dX0_duet_147 (fun μ38 H locs hf h => ?_)
            refine r_nmk hf (fun x39 ex hf => ?_)
            refine lv_iinc (v := x39) (lv' := [(5, .int x39), (0, .ref (ad b0)), (4, .ref (ad i20))]) X.hx X.hb dX0_duet_150 hl (k := 2) rfl (by rw [ex]; rfl) (by decide) rfl (fun ls hl => ?_)
            clear ex
            refine lv_goto (tgt := 81) X.hx X.hb dX0_duet_153 (by decide) ?_
            exact ih _ _ _ _ _ hf h (lv_sub hl [1, 2, 0] rfl)
          clear ej36
          refine lv_if_ne (tgt := 138) X.hx X.hb dX0_duet_128 (by decide) (fun hc => ?_) (fun hc => ?_)
          · replace hf := gif_f hf hc
            clear hc
            refine lv_aload_n X.hx X.hb dX0_duet_138 rfl (lv_at hl 0 rfl) ?_
            refine r_getP X h (ci := 0) (k := 23) (C := RX0) (T := TX0) (N := 36) rfl in_X0 (by decide) q165 rfl dX0_duet_139 hf (fun i40 hf => ?_)
            exact hj36 _ _ _ _ _ hf h (lv_sub hl [0, 1, 2] rfl)
          · replace hf := gif_t hf hc
            clear hc
            refine lv_aload_n X.hx X.hb dX0_duet_131 rfl (lv_at hl 0 rfl) ?_
            refine r_getP X h (ci := 0) (k := 22) (C := RX0) (T := TX0) (N := 36) rfl in_X0 (by decide) q164 rfl dX0_duet_132 hf (fun i41 hf => ?_)
            refine lv_goto (tgt := 142) X.hx X.hb dX0_duet_135 (by decide) ?_
            exact hj36 _ _ _ _ _ hf h (lv_sub hl [0, 1, 2] rfl)
      clear ej31
      refine lv_if_ne (tgt := 113) X.hx X.hb dX0_duet_103 (by decide) (fun hc => ?_) (fun hc => ?_)
      · replace hf := gif_f hf hc
        clear hc
        refine lv_aload_n X.hx X.hb dX0_duet_113 rfl (lv_at hl 0 rfl) ?_
        refine r_getP X h (ci := 0) (k := 23) (C := RX0) (T := TX0) (N := 36) rfl in_X0 (by decide) q165 rfl dX0_duet_114 hf (fun i42 hf => ?_)
        exact hj31 _ _ _ _ _ hf h (lv_sub hl [0, 1, 2] rfl)
      · replace hf := gif_t hf hc
        clear hc
        refine lv_aload_n X.hx X.hb dX0_duet_106 rfl (lv_at hl 0 rfl) ?_
        refine r_getP X h (ci := 0) (k := 22) (C := RX0) (T := TX0) (N := 36) rfl in_X0 (by decide) q164 rfl dX0_duet_107 hf (fun i43 hf => ?_)
        refine lv_goto (tgt := 117) X.hx X.hb dX0_duet_110 (by decide) ?_
        exact hj31 _ _ _ _ _ hf h (lv_sub hl [0, 1, 2] rfl)
def fX0_duet (μ0 : gM) (b0 : Nat) (a1 : Int32) (a2 : Int32) : gR := cI (fX0_isKept μ0 a1) fun x1 μ2 => if x1 = 0 then (some (some (.int (-1)), μ2)) else (cI (fX0_isRow μ2 a2) fun x3 μ4 => if x3 = 0 then (some (some (.int (-1)), μ4)) else (gP (gfld μ4 b0 0 21) fun i5 => gaQ μ4 6 i5 a1 fun o6 => gnu o6 (gis μ4 b0 0 <| cI (fX0_found μ4 b0 1) fun x44 μ45 => some (some (.int x44), μ45)) (gis μ4 b0 0 <| cI (fX0_askedPiece μ4 b0 a2) fun x7 μ8 => if 0 ≤ x7 then (gP (gfld μ8 b0 0 22) fun i9 => gP (gfld μ8 b0 0 10) fun i10 => gis μ8 i9 1 <| cV (fX1_take μ8 i9 i10) fun μ11 => gP (gfld μ11 b0 0 23) fun i12 => gP (gfld μ11 b0 0 21) fun i13 => gaQ μ11 6 i13 a1 fun o14 => gnn o14 fun i15 => gP (gfld μ11 i15 9 0) fun i16 => gis μ11 i12 1 <| cV (fX1_take μ11 i12 i16) fun μ17 => gP (gfld μ17 b0 0 5) fun i18 => gaQ μ17 3 i18 a2 fun o19 => gnn o19 fun i20 => fX0_duet_L81 b0 i20 10000 0 μ17) else (some (some (.int x7), μ8)))))
set_option maxHeartbeats 4000000 in
theorem wX0_duet (l : Launch) (Γ : gG) (ad : Nat → Nat) (μ0 : gM) (b0 : Nat) (a1 : Int32) (a2 : Int32) (r : Option Value × gM) (hf : fX0_duet μ0 b0 a1 a2 = some r) : gMt0 l Γ yX0_duet (ws_ yX0_duet cX0_duet 6 (some .int)) ({ frames := 4, cells := 0, slots := 0, locals := 89 } : Room) 0 0 ad μ0 [.ref (ad b0), .int a1, .int a2] r := by
  intro sz
  refine g_start (maxL := 6) (ret := (some .int)) (by decide) rfl g_all (Nat.le_of_ble_eq_true rfl) ?_
  intro p e s m below meth c ls hr hlk hnm X h hl
  generalize gA ad μ0 sz = A at X h ⊢
  generalize ([.ref (ad b0), .int a1, .int a2] : List Value).toArray = args at X ⊢
  have X : gX p m c cX0_duet 6 s args "SandPiano" Γ A := X
  have hl : lv_has ls 6 [(0, .ref (ad b0)), (1, .int a1), (2, .int a2)] := hl
  show W p l e ({ frames := 4, cells := 0, slots := 0, locals := 89 } : Room) s m args below meth c s.heap [] 0 0 (MQ below (gQ0 Γ ad μ0.1 r A) args s 0 0 A) (F0 m 0 ls [])
  unfold fX0_duet at hf
  refine lv_iload_n X.hx X.hb dX0_duet_0 rfl (lv_at hl 1 rfl) ?_
  refine r_cSI (As := [.int a1]) (rest := []) X h hf (fun res hres => wX0_isKept l Γ ad _ a1 res hres) (va_cwS 1 X.hts (lw_S q807 q808 q82 q809) rfl rfl rfl (by decide +kernel) ⟨Nat.le_of_ble_eq_true rfl, Nat.le_of_ble_eq_true rfl⟩) rfl ⟨hl.1, Nat.le_of_ble_eq_true rfl, Nat.le_of_ble_eq_true rfl, Nat.le_of_ble_eq_true rfl⟩ rfl dX0_duet_1 (fun x1 μ2 H locs hf h => ?_)
  refine lv_if_eq (tgt := 14) X.hx X.hb dX0_duet_4 (by decide) (fun hc => ?_) (fun hc => ?_)
  · replace hf := gif_t hf hc
    clear hc
    refine lv_iconst (v := (-1)) X.hx X.hb dX0_duet_14 (by decide) ?_
    exact r_ri X h hr hlk (Nat.le_of_ble_eq_true rfl) (Nat.le_of_ble_eq_true rfl) dX0_duet_15 hf
  · replace hf := gif_f hf hc
    clear hc
    refine lv_iload_n X.hx X.hb dX0_duet_7 rfl (lv_at hl 2 rfl) ?_
    refine r_cSI (As := [.int a2]) (rest := []) X h hf (fun res hres => wX0_isRow l Γ ad _ a2 res hres) (va_cwS 1 X.hts (lw_S q341 q342 q82 q343) rfl rfl rfl (by decide +kernel) ⟨Nat.le_of_ble_eq_true rfl, Nat.le_of_ble_eq_true rfl⟩) rfl ⟨hl.1, Nat.le_of_ble_eq_true rfl, Nat.le_of_ble_eq_true rfl, Nat.le_of_ble_eq_true rfl⟩ rfl dX0_duet_8 (fun x3 μ4 H locs hf h => ?_)
    refine lv_if_ne (tgt := 16) X.hx X.hb dX0_duet_11 (by decide) (fun hc => ?_) (fun hc => ?_)
    · replace hf := gif_f hf hc
      clear hc
      refine lv_aload_n X.hx X.hb dX0_duet_16 rfl (lv_at hl 0 rfl) ?_
      refine r_getP X h (ci := 0) (k := 21) (C := RX0) (T := TX0) (N := 36) rfl in_X0 (by decide) q163 rfl dX0_duet_17 hf (fun i5 hf => ?_)
      refine lv_iload_n X.hx X.hb dX0_duet_20 rfl (lv_at hl 1 rfl) ?_
      refine r_aald X h (t := 6) rfl rfl dX0_duet_21 hf (fun o6 hf => ?_)
      refine r_ifnn (tgt := 31) X.hx X.hb dX0_duet_22 (by decide) hf (fun hf => ?_) (fun hf => ?_)
      · refine lv_aload_n X.hx X.hb dX0_duet_31 rfl (lv_at hl 0 rfl) ?_
        refine lv_iload_n X.hx X.hb dX0_duet_32 rfl (lv_at hl 2 rfl) ?_
        refine r_cVI (As := [.int a2]) (rest := []) (C := RX0) (T := TX0) (N := 36) X h hf (fun res hres => wX0_askedPiece l Γ ad _ b0 a2 res hres) rfl (cwV 1 X.hts (lw_V q845 q847 qs17 q82 q848) rfl rfl rfl (by decide +kernel) ⟨Nat.le_of_ble_eq_true rfl, Nat.le_of_ble_eq_true rfl⟩) rfl ⟨hl.1, Nat.le_of_ble_eq_true rfl, Nat.le_of_ble_eq_true rfl, Nat.le_of_ble_eq_true rfl⟩ rfl dX0_duet_33 (fun x7 μ8 H locs hf h => ?_)
        refine lv_istore_n (lv' := [(3, .int x7), (0, .ref (ad b0)), (1, .int a1), (2, .int a2)]) X.hx X.hb dX0_duet_36 rfl hl (by decide) rfl (fun ls hl => ?_)
        refine lv_iload_n X.hx X.hb dX0_duet_37 rfl (lv_at hl 0 rfl) ?_
        refine lv_if_ge (tgt := 43) X.hx X.hb dX0_duet_38 (by decide) (fun hc => ?_) (fun hc => ?_)
        · replace hf := gif_t hf hc
          clear hc
          refine lv_aload_n X.hx X.hb dX0_duet_43 rfl (lv_at hl 1 rfl) ?_
          refine r_getP X h (ci := 0) (k := 22) (C := RX0) (T := TX0) (N := 36) rfl in_X0 (by decide) q164 rfl dX0_duet_44 hf (fun i9 hf => ?_)
          refine lv_aload_n X.hx X.hb dX0_duet_47 rfl (lv_at hl 1 rfl) ?_
          refine r_getP X h (ci := 0) (k := 10) (C := RX0) (T := TX0) (N := 36) rfl in_X0 (by decide) q152 rfl dX0_duet_48 hf (fun i10 hf => ?_)
          refine r_cVV (As := [.ref (ad i10)]) (rest := []) (C := RX1) (T := TX1) (N := 1) X h hf (fun res hres => wX1_take l Γ ad _ i9 i10 res hres) rfl (cwV 1 X.hts (lw_V q832 q833 q834 q83 q835) rfl rfl rfl (by decide +kernel) ⟨Nat.le_of_ble_eq_true rfl, Nat.le_of_ble_eq_true rfl⟩) rfl ⟨hl.1, Nat.le_of_ble_eq_true rfl, Nat.le_of_ble_eq_true rfl, Nat.le_of_ble_eq_true rfl⟩ rfl dX0_duet_51 (fun μ11 H locs hf h => ?_)
          refine lv_aload_n X.hx X.hb dX0_duet_54 rfl (lv_at hl 1 rfl) ?_
          refine r_getP X h (ci := 0) (k := 23) (C := RX0) (T := TX0) (N := 36) rfl in_X0 (by decide) q165 rfl dX0_duet_55 hf (fun i12 hf => ?_)
          refine lv_aload_n X.hx X.hb dX0_duet_58 rfl (lv_at hl 1 rfl) ?_
          refine r_getP X h (ci := 0) (k := 21) (C := RX0) (T := TX0) (N := 36) rfl in_X0 (by decide) q163 rfl dX0_duet_59 hf (fun i13 hf => ?_)
          refine lv_iload_n X.hx X.hb dX0_duet_62 rfl (lv_at hl 2 rfl) ?_
          refine r_aald X h (t := 6) rfl rfl dX0_duet_63 hf (fun o14 hf => ?_)
          refine r_nn hf (fun i15 hf => ?_)
          refine r_getNP X h (ci := 9) (k := 0) (C := RX9) (T := TX9) (N := 4) rfl in_X9 (by decide) 10 rfl rfl dX0_duet_64 hf (fun i16 hf => ?_)
          refine r_cVV (As := [.ref (ad i16)]) (rest := []) (C := RX1) (T := TX1) (N := 1) X h hf (fun res hres => wX1_take l Γ ad _ i12 i16 res hres) rfl (cwV 1 X.hts (lw_V q832 q833 q834 q83 q835) rfl rfl rfl (by decide +kernel) ⟨Nat.le_of_ble_eq_true rfl, Nat.le_of_ble_eq_true rfl⟩) rfl ⟨hl.1, Nat.le_of_ble_eq_true rfl, Nat.le_of_ble_eq_true rfl, Nat.le_of_ble_eq_true rfl⟩ rfl dX0_duet_67 (fun μ17 H locs hf h => ?_)
          refine lv_aload_n X.hx X.hb dX0_duet_70 rfl (lv_at hl 1 rfl) ?_
          refine r_getP X h (ci := 0) (k := 5) (C := RX0) (T := TX0) (N := 36) rfl in_X0 (by decide) q146 rfl dX0_duet_71 hf (fun i18 hf => ?_)
          refine lv_iload_n X.hx X.hb dX0_duet_74 rfl (lv_at hl 3 rfl) ?_
          refine r_aald X h (t := 3) rfl rfl dX0_duet_75 hf (fun o19 hf => ?_)
          refine r_nn hf (fun i20 hf => ?_)
          refine lv_astore (lv' := [(4, .ref (ad i20)), (3, .int x7), (0, .ref (ad b0)), (1, .int a1), (2, .int a2)]) X.hx X.hb dX0_duet_76 hl (by decide) rfl (fun ls hl => ?_)
          refine lv_iconst (v := 0) X.hx X.hb dX0_duet_78 (by decide) ?_
          refine lv_istore (lv' := [(5, .int 0), (4, .ref (ad i20)), (3, .int x7), (0, .ref (ad b0)), (1, .int a1), (2, .int a2)]) X.hx X.hb dX0_duet_79 hl (by decide) rfl (fun ls hl => ?_)
          refine wX0_duet_L81 l b0 i20 X hr hlk 10000 _ _ _ _ _ hf h (lv_sub hl [3, 1, 0] rfl)
        · replace hf := gif_f hf hc
          clear hc
          refine lv_iload_n X.hx X.hb dX0_duet_41 rfl (lv_at hl 0 rfl) ?_
          exact r_ri X h hr hlk (Nat.le_of_ble_eq_true rfl) (Nat.le_of_ble_eq_true rfl) dX0_duet_42 hf
      · refine lv_aload_n X.hx X.hb dX0_duet_25 rfl (lv_at hl 0 rfl) ?_
        refine lv_iconst (v := 1) X.hx X.hb dX0_duet_26 (by decide) ?_
        refine r_cVI (As := [.int 1]) (rest := []) (C := RX0) (T := TX0) (N := 36) X h hf (fun res hres => wX0_found l Γ ad _ b0 1 res hres) rfl (cwV 1 X.hts (lw_V q347 q349 qs2 q82 q350) rfl rfl rfl (by decide +kernel) ⟨Nat.le_of_ble_eq_true rfl, Nat.le_of_ble_eq_true rfl⟩) rfl ⟨hl.1, Nat.le_of_ble_eq_true rfl, Nat.le_of_ble_eq_true rfl, Nat.le_of_ble_eq_true rfl⟩ rfl dX0_duet_27 (fun x44 μ45 H locs hf h => ?_)
        exact r_ri X h hr hlk (Nat.le_of_ble_eq_true rfl) (Nat.le_of_ble_eq_true rfl) dX0_duet_30 hf
    · replace hf := gif_t hf hc
      clear hc
      refine lv_iconst (v := (-1)) X.hx X.hb dX0_duet_14 (by decide) ?_
      exact r_ri X h hr hlk (Nat.le_of_ble_eq_true rfl) (Nat.le_of_ble_eq_true rfl) dX0_duet_15 hf
